set_option maxRecDepth 100000
section T99ZO
variable {g : fc_G} {l : Launch} {M : fc_M} {S : tT} {U : tU} {w v : Nat → Int32} {π f nC n : Nat} {τ : Nat → Nat}
theorem th_ri {y : MethodName} {cc : ByteArray} {nL : Nat} {ret : Option FieldType} {d : Nat} {av : List Value} {M0 : fc_M} {r : Int32} (h : fc_CX g l y cc nL ret d av M0 (th_i M S U r)) : fc_CX g l y cc nL ret d av M0 (fc_ri (fun q M2 => q = r ∧ ∃ gv S' U', M2 = cl (fc_put M 99 5 gv) S' U' ∧ thS S S' ∧ thU U U')) := by
  obtain ⟨o, M', ⟨h1, h2⟩, h3⟩ := h
  exact ⟨o, M', ⟨r, h1, rfl, h2⟩, h3⟩
theorem th_tr {S' : tT} {U' : tU} {gv : Value} {r : Int32} {o : Outcome} {M2 : fc_M} (hS : thS S S') (hU : thU U U') (h : th_i (fc_put M 99 5 gv) S' U' r o M2) : th_i M S U r o M2 := by
  obtain ⟨h1, gv2, S2, U2, h2, h3, h4⟩ := h
  exact ⟨h1, gv2, S2, U2, by rw [h2, put_put], fun a k z1 z2 => (h3 a k z1 z2).trans (hS a k z1 z2), fun a k z => (h4 a k z).trans (hU a k z)⟩
theorem x_mono2 {y : MethodName} {cc : ByteArray} {nL : Nat} {ret : Option FieldType} {d n0 s0 : Nat} {M0 : fc_M} {pc : Nat} {L : List (Option Value)} {st : List Value} {Q Q' : Outcome → fc_M → Prop} (hQ : ∀ o M2, Q o M2 → Q' o M2) (h : fc_X g l y cc nL ret d n0 s0 M0 pc L st Q) : fc_X g l y cc nL ret d n0 s0 M0 pc L st Q' := by
  obtain ⟨o, Mf, h1, h2⟩ := h
  exact ⟨o, Mf, hQ _ _ h1, h2⟩
def mnF (v : Nat → Int32) (f nC m a b all : Nat) : Nat → Nat → Int32
  | 0, _ => -1
  | k + 1, i => if i < all then (if moR v f nC m i b < moR v f nC m i a then nI i else mnF v f nC m a b all k (i + 1)) else -1
def mnC (v : Nat → Int32) (f nC : Nat) (x1 x2 x3 x4 : Int32) : Int32 := if nI 0 ≤ x1 ∧ x1 ≤ nI 2 then (if nI 0 ≤ x2 ∧ x2 ≤ nI 2 then (if nI 1 ≤ x3 ∧ x3 ≤ nI 2 then (if nI 0 ≤ x4 ∧ x4 ≤ nI 1 then (if nI 2 ≤ nI f ∧ nI f ≤ nI 8 then (if x4.toNatClampNeg = 1 then nI (mnA f x3.toNatClampNeg) else mnF v f nC x3.toNatClampNeg x1.toNatClampNeg x2.toNatClampNeg (mnA f x3.toNatClampNeg) (mnA f x3.toNatClampNeg + 1) 0) else -1) else -1) else -1) else -1) else -1
theorem kG_X0_X0_overOf : GoodIn lw_all (wsV RX0 485 RX0 yX0_overOf (ws_ yX0_overOf cX0_overOf 5 (some .int))) := lw_V q1069 q1071 qs42 q118 q1072
theorem kP_X0_overOf : kPar yX0_overOf 4 := by decide +kernel
set_option maxHeartbeats 1000000 in
theorem m_mornings {n0 s0 : Nat} {a b m kk all : Nat} (hB : BI v f nC) (hfun : ∀ i, 420 ≤ i → i < 740 → v i = 0) (ha : a < 3) (hb : b < 3) (hf2 : 2 ≤ f) (hfe : f ≤ 8) (hm : m = 1 ∨ m = 2) (hkk : kk = f * (f - 1)) (hkb : kk < 100) (hk0 : 0 < kk) (hal : all = mnA f m) (hab : all < 10000) {x4 : Int32} : ∀ (k i : Nat) (M : fc_M) (S : tT) (U : tU), TI g M S U π f nC n v → RT g M S τ v → clr S 32 v = S → i ≤ all → all < i + k → fc_X g l yX0_mornings cX0_mornings 8 (some .int) 409 n0 s0 (cl M S U) 99 [some (.ref (fc_B g + 0)), some (.int (nI a)), some (.int (nI b)), some (.int (nI m)), some (.int x4), some (.int (nI kk)), some (.int (nI all)), some (.int (nI i))] [] (th_i M S U (mnF v f nC m a b all k i)) := by
  intro k
  induction k with
  | zero => intro i M S U h hR hv z1 z2; omega
  | succ k ih =>
    intro i M S U h hR hv z1 z2
    refine x_iload dX0_mornings_99 rfl ?_
    refine x_iload dX0_mornings_101 rfl ?_
    refine x_icmpN_ge (tgt := 138) dX0_mornings_103 (by decide) (by omega) (by omega) (fun hc103 => ?_) (fun hc103 => ?_)
    · refine x_icm1 dX0_mornings_138 ?_
      rw [mnF, if_neg (Nat.not_lt.mpr hc103)]
      exact x_iret dX0_mornings_139 rfl rfl th_same
    · refine x_aload_n dX0_mornings_106 rfl ?_
      refine x_iload_n dX0_mornings_107 rfl ?_
      refine x_iload dX0_mornings_108 rfl ?_
      refine x_iload_n dX0_mornings_110 rfl ?_
      refine x_iload dX0_mornings_111 rfl ?_
      refine x_V4i (P := fun q M2 => q = moR v f nC m i a ∧ ∃ gv S2 U2, M2 = cl (fc_put (M) 99 5 gv) S2 U2 ∧ thS S S2 ∧ thU U U2) 0 dX0_mornings_113 kG_X0_X0_overOf kP_X0_overOf (T := TX0) (N := 30) rfl (show 0 < fc_nx (M) by have := h.2.1.1.1; omega) (h.2.1.1.2.2 0 _ rfl) (by omega) (by decide) (Nat.le_of_ble_eq_true rfl) (th_ri (d_overOfM h hR hv hB hfun ha hf2 hfe hm (fun z => by rw [hal, z] at hc103; exact hc103) (fun z => by rw [hal, z] at hc103; exact hc103) hkk hkb hk0 (by omega))) (fun q1 M1 e1 => ?_)
      obtain ⟨e9, gv1, S1, U1, e8, hS1, hU1⟩ := e1
      subst e9
      subst e8
      have h1 := TI_th (gv := gv1) h hS1 hU1
      have hR1 := RT_th (gv := gv1) h hS1 hR
      have hv1 := tel_th hv hS1
      refine x_aload_n dX0_mornings_116 rfl ?_
      refine x_iload_n dX0_mornings_117 rfl ?_
      refine x_iload dX0_mornings_118 rfl ?_
      refine x_iload_n dX0_mornings_120 rfl ?_
      refine x_iload dX0_mornings_121 rfl ?_
      refine x_V4i (P := fun q M2 => q = moR v f nC m i b ∧ ∃ gv S2 U2, M2 = cl (fc_put (fc_put M 99 5 gv1) 99 5 gv) S2 U2 ∧ thS S1 S2 ∧ thU U1 U2) 0 dX0_mornings_123 kG_X0_X0_overOf kP_X0_overOf (T := TX0) (N := 30) rfl (show 0 < fc_nx (fc_put M 99 5 gv1) by have := h1.2.1.1.1; omega) (h1.2.1.1.2.2 0 _ rfl) (by omega) (by decide) (Nat.le_of_ble_eq_true rfl) (th_ri (d_overOfM h1 hR1 hv1 hB hfun hb hf2 hfe hm (fun z => by rw [hal, z] at hc103; exact hc103) (fun z => by rw [hal, z] at hc103; exact hc103) hkk hkb hk0 (by omega))) (fun q1 M1 e1 => ?_)
      obtain ⟨e9, gv2, S2, U2, e8, hS2, hU2⟩ := e1
      subst e9
      subst e8
      have h2 := TI_th (gv := gv2) h1 hS2 hU2
      have hR2 := RT_th (gv := gv2) h1 hS2 hR1
      have hv2 := tel_th hv1 hS2
      refine x_icmp_le (tgt := 132) dX0_mornings_126 (by decide) (fun hc126 => ?_) (fun hc126 => ?_)
      · refine x_iincN (n := 1) dX0_mornings_132 (by decide) rfl (by decide) rfl ?_
        refine x_goto (tgt := 99) dX0_mornings_135 (by decide) ?_
        rw [mnF, if_pos hc103, if_neg (Int32.not_lt.mpr hc126)]
        exact x_mono2 (fun o M2 q => th_tr hS1 hU1 (th_tr hS2 hU2 q)) (ih (i + 1) _ S2 U2 h2 hR2 hv2 (by omega) (by omega))
      · refine x_iload dX0_mornings_129 rfl ?_
        rw [mnF, if_pos hc103, if_pos (Int32.not_le.mp hc126)]
        exact x_iret dX0_mornings_131 rfl rfl ⟨rfl, gv2, S2, U2, by rw [put_put], fun a k z1 z2 => (hS2 a k z1 z2).trans (hS1 a k z1 z2), fun a k z => (hU2 a k z).trans (hU1 a k z)⟩
set_option maxHeartbeats 1000000 in
theorem d_mornings (h : TI g M S U π f nC n v) (hR : RT g M S τ v) (hv : clr S 32 v = S) (hB : BI v f nC) (hfun : ∀ i, 420 ≤ i → i < 740 → v i = 0) {x1 x2 x3 x4 : Int32} : fc_CX g l yX0_mornings cX0_mornings 8 (some .int) 409 [.ref (fc_B g + 0), .int x1, .int x2, .int x3, .int x4] (cl M S U) (th_i M S U (mnC v f nC x1 x2 x3 x4)) := by
  refine fc_enter (by decide) (Nat.le_of_ble_eq_true rfl) rfl ?_
  have hn := h.2.2.2.1.1.1
  have hC4 := h.2.2.2.1.1.2.2
  have hf8 := h.2.2.2.1.1.2.1
  have hw := h.2.2.2.1.2.2.2.1
  have hL := h.1.1
  have hO := h.2.1
  refine x_eqM (congrArg (fun z => cl M z U) hv.symm) ?_
  refine x_iload_n dX0_mornings_0 rfl ?_
  refine k_S1i dX0_mornings_1 kG_X0_X0_isRule kP_X0_isRule (by omega) (by decide) (Nat.le_of_ble_eq_true rfl) d_isRule ?_
  refine x_ifB_eq (tgt := 49) dX0_mornings_4 (by decide) (fun hc4 => ?_) (fun hc4 => ?_)
  · refine x_icm1 dX0_mornings_49 ?_
    have e9 : mnC v f nC x1 x2 x3 x4 = -1 := if_neg hc4
    rw [e9]
    refine x_eqM (congrArg (fun z => cl M z U) hv) ?_
    exact x_iret dX0_mornings_50 rfl rfl th_same
  · refine x_iload_n dX0_mornings_7 rfl ?_
    refine k_S1i dX0_mornings_8 kG_X0_X0_isRule kP_X0_isRule (by omega) (by decide) (Nat.le_of_ble_eq_true rfl) d_isRule ?_
    refine x_ifB_eq (tgt := 49) dX0_mornings_11 (by decide) (fun hc11 => ?_) (fun hc11 => ?_)
    · refine x_icm1 dX0_mornings_49 ?_
      have e9 : mnC v f nC x1 x2 x3 x4 = -1 := (if_pos hc4).trans (if_neg hc11)
      rw [e9]
      refine x_eqM (congrArg (fun z => cl M z U) hv) ?_
      exact x_iret dX0_mornings_50 rfl rfl th_same
    · refine x_iload_n dX0_mornings_14 rfl ?_
      refine x_ic1 dX0_mornings_15 ?_
      refine x_ic2 dX0_mornings_16 ?_
      refine k_S3i dX0_mornings_17 kG_X0_X0_isIn kP_X0_isIn (by omega) (by decide) (Nat.le_of_ble_eq_true rfl) d_isIn ?_
      refine x_ifB_eq (tgt := 49) dX0_mornings_20 (by decide) (fun hc20 => ?_) (fun hc20 => ?_)
      · refine x_icm1 dX0_mornings_49 ?_
        have e9 : mnC v f nC x1 x2 x3 x4 = -1 := (if_pos hc4).trans ((if_pos hc11).trans (if_neg hc20))
        rw [e9]
        refine x_eqM (congrArg (fun z => cl M z U) hv) ?_
        exact x_iret dX0_mornings_50 rfl rfl th_same
      · refine x_iload dX0_mornings_23 rfl ?_
        refine x_ic0 dX0_mornings_25 ?_
        refine x_ic1 dX0_mornings_26 ?_
        refine k_S3i dX0_mornings_27 kG_X0_X0_isIn kP_X0_isIn (by omega) (by decide) (Nat.le_of_ble_eq_true rfl) d_isIn ?_
        refine x_ifB_eq (tgt := 49) dX0_mornings_30 (by decide) (fun hc30 => ?_) (fun hc30 => ?_)
        · refine x_icm1 dX0_mornings_49 ?_
          have e9 : mnC v f nC x1 x2 x3 x4 = -1 := (if_pos hc4).trans ((if_pos hc11).trans ((if_pos hc20).trans (if_neg hc30)))
          rw [e9]
          refine x_eqM (congrArg (fun z => cl M z U) hv) ?_
          exact x_iret dX0_mornings_50 rfl rfl th_same
        · refine x_aload_n dX0_mornings_33 rfl ?_
          refine k_plan hO dX0_mornings_34 q410 ?_
          refine k_plF 0 (nI f) hO (Or.inl ⟨rfl, rfl⟩) dX0_mornings_37 q211 ?_
          refine x_ic2 dX0_mornings_40 ?_
          refine x_bipush (v := nI 8) dX0_mornings_41 (by decide) ?_
          refine k_S3i dX0_mornings_43 kG_X0_X0_isIn kP_X0_isIn (by omega) (by decide) (Nat.le_of_ble_eq_true rfl) d_isIn ?_
          refine x_ifB_ne (tgt := 51) dX0_mornings_46 (by decide) (fun hc46 => ?_) (fun hc46 => ?_)
          · obtain ⟨a, -, ha2, rfl⟩ := nI_between (by decide) hc4 (by decide)
            obtain ⟨b, -, hb2, rfl⟩ := nI_between (by decide) hc11 (by decide)
            obtain ⟨m, hm1, hm2, rfl⟩ := nI_between (by decide) hc20 (by decide)
            obtain ⟨wh, -, hwh, rfl⟩ := nI_between (by decide) hc30 (by decide)
            have hf2 : 2 ≤ f := (nI_leI (by decide) (by omega)).mp hc46.1
            have hfe : f ≤ 8 := (nI_leI (by omega) (by decide)).mp hc46.2
            have hkb : f * (f - 1) ≤ 8 * 7 := Nat.mul_le_mul hfe (by omega)
            have hk0 : 0 < f * (f - 1) := Nat.mul_pos (by omega) (by omega)
            have hkq : f * (f - 1) * (f * (f - 1)) ≤ 56 * 56 := Nat.mul_le_mul hkb hkb
            · refine x_aload_n dX0_mornings_51 rfl ?_
              refine k_plan hO dX0_mornings_52 q410 ?_
              refine k_plF 0 (nI f) hO (Or.inl ⟨rfl, rfl⟩) dX0_mornings_55 q211 ?_
              refine x_aload_n dX0_mornings_58 rfl ?_
              refine k_plan hO dX0_mornings_59 q410 ?_
              refine k_plF 0 (nI f) hO (Or.inl ⟨rfl, rfl⟩) dX0_mornings_62 q211 ?_
              refine x_ic1 dX0_mornings_65 ?_
              refine x_isubN dX0_mornings_66 (by omega) ?_
              refine x_imulN dX0_mornings_67 ?_
              refine x_istore dX0_mornings_68 (by decide) rfl ?_
              refine x_iload_n dX0_mornings_70 rfl ?_
              refine x_ic1 dX0_mornings_71 ?_
              refine x_icmpN_ne (tgt := 80) dX0_mornings_72 (by decide) (by omega) (by omega) (fun hc72 => ?_) (fun hc72 => ?_)
              · refine x_iload dX0_mornings_80 rfl ?_
                refine x_iload dX0_mornings_82 rfl ?_
                refine x_imulN dX0_mornings_84 ?_
                refine x_istore dX0_mornings_85 (by decide) rfl ?_
                refine x_iload dX0_mornings_87 rfl ?_
                refine x_ic1 dX0_mornings_89 ?_
                refine x_icmpN_ne (tgt := 96) dX0_mornings_90 (by decide) (by omega) (by omega) (fun hc90 => ?_) (fun hc90 => ?_)
                · refine x_ic0 dX0_mornings_96 ?_
                  refine x_istore dX0_mornings_97 (by decide) rfl ?_
                  have e9 : mnC v f nC (nI a) (nI b) (nI m) (nI wh) = mnF v f nC m a b (mnA f m) (mnA f m + 1) 0 := by rw [mnC, if_pos hc4, if_pos hc11, if_pos hc20, if_pos hc30, if_pos hc46, nI_clamp (n := wh) (by omega), if_neg hc90, nI_clamp (n := m) (by omega), nI_clamp (n := a) (by omega), nI_clamp (n := b) (by omega)]
                  have e8 : mnA f m = f * (f - 1) * (f * (f - 1)) := by rw [mnA, if_neg hc72]
                  rw [e9]
                  refine x_eqM (congrArg (fun z => cl M z U) hv) ?_
                  have e7 := m_mornings (l := l) (a := a) (b := b) (m := m) (kk := f * (f - 1)) (all := mnA f m) (x4 := nI wh) (n0 := fc_nx (cl M S U)) (s0 := fc_sl (cl M S U)) hB hfun (by omega) (by omega) hf2 hfe (by omega) rfl (by omega) hk0 rfl (by rw [e8]; omega) (mnA f m + 1) 0 M S U h hR hv (by omega) (by omega)
                  rw [e8] at e7 ⊢
                  exact e7
                · refine x_iload dX0_mornings_93 rfl ?_
                  have e9 : mnC v f nC (nI a) (nI b) (nI m) (nI wh) = nI (mnA f m) := by rw [mnC, if_pos hc4, if_pos hc11, if_pos hc20, if_pos hc30, if_pos hc46, nI_clamp (n := wh) (by omega), if_pos hc90, nI_clamp (by omega)]
                  rw [e9, mnA, if_neg hc72]
                  refine x_eqM (congrArg (fun z => cl M z U) hv) ?_
                  exact x_iret dX0_mornings_95 rfl rfl th_same
              · refine x_iload dX0_mornings_75 rfl ?_
                refine x_goto (tgt := 85) dX0_mornings_77 (by decide) ?_
                refine x_istore dX0_mornings_85 (by decide) rfl ?_
                refine x_iload dX0_mornings_87 rfl ?_
                refine x_ic1 dX0_mornings_89 ?_
                refine x_icmpN_ne (tgt := 96) dX0_mornings_90 (by decide) (by omega) (by omega) (fun hc90 => ?_) (fun hc90 => ?_)
                · refine x_ic0 dX0_mornings_96 ?_
                  refine x_istore dX0_mornings_97 (by decide) rfl ?_
                  have e9 : mnC v f nC (nI a) (nI b) (nI m) (nI wh) = mnF v f nC m a b (mnA f m) (mnA f m + 1) 0 := by rw [mnC, if_pos hc4, if_pos hc11, if_pos hc20, if_pos hc30, if_pos hc46, nI_clamp (n := wh) (by omega), if_neg hc90, nI_clamp (n := m) (by omega), nI_clamp (n := a) (by omega), nI_clamp (n := b) (by omega)]
                  have e8 : mnA f m = f * (f - 1) := by rw [mnA, if_pos hc72]
                  rw [e9]
                  refine x_eqM (congrArg (fun z => cl M z U) hv) ?_
                  have e7 := m_mornings (l := l) (a := a) (b := b) (m := m) (kk := f * (f - 1)) (all := mnA f m) (x4 := nI wh) (n0 := fc_nx (cl M S U)) (s0 := fc_sl (cl M S U)) hB hfun (by omega) (by omega) hf2 hfe (by omega) rfl (by omega) hk0 rfl (by rw [e8]; omega) (mnA f m + 1) 0 M S U h hR hv (by omega) (by omega)
                  rw [e8] at e7 ⊢
                  exact e7
                · refine x_iload dX0_mornings_93 rfl ?_
                  have e9 : mnC v f nC (nI a) (nI b) (nI m) (nI wh) = nI (mnA f m) := by rw [mnC, if_pos hc4, if_pos hc11, if_pos hc20, if_pos hc30, if_pos hc46, nI_clamp (n := wh) (by omega), if_pos hc90, nI_clamp (by omega)]
                  rw [e9, mnA, if_pos hc72]
                  refine x_eqM (congrArg (fun z => cl M z U) hv) ?_
                  exact x_iret dX0_mornings_95 rfl rfl th_same
          · refine x_icm1 dX0_mornings_49 ?_
            have e9 : mnC v f nC x1 x2 x3 x4 = -1 := (if_pos hc4).trans ((if_pos hc11).trans ((if_pos hc20).trans ((if_pos hc30).trans (if_neg hc46))))
            rw [e9]
            refine x_eqM (congrArg (fun z => cl M z U) hv) ?_
            exact x_iret dX0_mornings_50 rfl rfl th_same
end T99ZO
