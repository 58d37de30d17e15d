set_option maxRecDepth 100000
section T99ZD
variable {g : fc_G} {l : Launch} {M : fc_M} {S : tT} {U : tU} {β : Nat} {w : Nat → Int32} {π f nC : Nat}
theorem kG_X0_X3_costOf : GoodIn lw_all (wsV RX0 427 RX3 yX3_costOf (ws_ yX3_costOf cX3_costOf 6 (some .int))) := lw_V q995 q885 q886 q121 q887
set_option maxHeartbeats 1000000 in
theorem d_cost (hL : LT g M 32) (hO : PC g M S π 32 f nC w) {n : Nat} (hG : GI w n f nC) {τ : Nat → Nat} (hR : ∀ r, r < 3 → fc_ct M 6 r = .ref (fc_B g + τ r) ∧ TX g M S (τ r) w r (nlW w r)) {x1 x2 x3 : Int32} : fc_CX g l yX0_cost cX0_cost 5 (some .int) 405 [.ref (fc_B g + 0), .int x1, .int x2, .int x3] (cR M S U 32 w) (bs_i M S U 32 (coQ w n x1 x2 x3) w) := by
  refine fc_enter (by decide) (Nat.le_of_ble_eq_true rfl) rfl ?_
  have hC := hG.1.2.2
  have hF := hG.1.2.1
  have hN := hG.1.1
  refine x_aload_n dX0_cost_0 rfl ?_
  refine x_iload_n dX0_cost_1 rfl ?_
  refine k_V1iF hO.1 dX0_cost_2 kG_X0_X0_isOne kP_X0_isOne rfl (by omega) (by decide) (Nat.le_of_ble_eq_true rfl) (d_isOne hL hO) ?_
  refine x_ifB_eq (tgt := 39) dX0_cost_5 (by decide) (fun hc5 => ?_) (fun hc5 => ?_)
  · refine x_ldcw dX0_cost_39 q994 ?_
    have e9 : coQ w n x1 x2 x3 = -100000000 := by rw [coQ, hG.2.2.1, if_neg hc5]
    exact x_iret dX0_cost_42 rfl rfl ⟨by rw [e9], S, rfl, SF.refl⟩
  · obtain ⟨pp, hp, rfl⟩ := hG.one hc5
    have hcp : (nI pp).toNatClampNeg = pp := nI_clamp (by omega)
    · refine x_aload_n dX0_cost_8 rfl ?_
      refine k_Fref 17 hO.1 rfl (by decide) rfl dX0_cost_9 q415 ?_
      refine k_people 0 rfl hL dX0_cost_12 q348 ?_
      refine x_iload_n dX0_cost_15 rfl ?_
      refine k_pald hL dX0_cost_16 (by omega) ?_
      refine k_pget 3 hL dX0_cost_17 (by decide) q278 (by omega) ?_
      refine x_ic1 dX0_cost_20 ?_
      refine x_icmp_ne (tgt := 39) dX0_cost_21 (by decide) (fun hc21 => ?_) (fun hc21 => ?_)
      · refine x_ldcw dX0_cost_39 q994 ?_
        have e9 : coQ w n (nI pp) x2 x3 = -100000000 := by rw [coQ, hG.2.2.1, if_pos hc5, if_neg (by rw [hcp]; exact hc21)]
        exact x_iret dX0_cost_42 rfl rfl ⟨by rw [e9], S, rfl, SF.refl⟩
      · refine x_aload_n dX0_cost_24 rfl ?_
        refine x_iload_n dX0_cost_25 rfl ?_
        refine k_V1iF hO.1 dX0_cost_26 kG_X0_X0_isCar kP_X0_isCar rfl (by omega) (by decide) (Nat.le_of_ble_eq_true rfl) (d_isCar hO) ?_
        refine x_ifB_eq (tgt := 39) dX0_cost_29 (by decide) (fun hc29 => ?_) (fun hc29 => ?_)
        · refine x_ldcw dX0_cost_39 q994 ?_
          have e9 : coQ w n (nI pp) x2 x3 = -100000000 := by rw [coQ, hG.2.2.1, if_pos hc5, if_pos (by rw [hcp]; exact hc21), if_neg hc29]
          exact x_iret dX0_cost_42 rfl rfl ⟨by rw [e9], S, rfl, SF.refl⟩
        · refine x_iload_n dX0_cost_32 rfl ?_
          refine k_S1i dX0_cost_33 kG_X0_X0_isRule kP_X0_isRule (by omega) (by decide) (Nat.le_of_ble_eq_true rfl) d_isRule ?_
          refine x_ifB_ne (tgt := 43) dX0_cost_36 (by decide) (fun hc36 => ?_) (fun hc36 => ?_)
          · obtain ⟨cc, hcc, rfl⟩ := inC (m := nC) (by omega) hc29
            obtain ⟨rr, -, hrr, rfl⟩ := nI_between (by decide) hc36 (by decide)
            have hr : rr < 3 := by omega
            · refine x_aload_n dX0_cost_43 rfl ?_
              refine k_Fref 17 hO.1 rfl (by decide) rfl dX0_cost_44 q415 ?_
              refine x_iload_n dX0_cost_47 rfl ?_
              refine x_iload_n dX0_cost_48 rfl ?_
              refine x_iload_n dX0_cost_49 rfl ?_
              obtain ⟨a9, ha9, hfl9⟩ := (hG.2.2.2.2.2.2.1 cc hcc).1
              obtain ⟨b9, c9, hb9, -, hbf9, -⟩ := hG.2.2.2.2.2.1 pp hp
              obtain ⟨o2, M2, ⟨ho2, S2, hM2, hS2, h8⟩, hC2⟩ := d_costOf (l := l) (U := U) hL hO hN hG.2.2.2.1 (p := pp) (c := cc) (by omega) (by omega) hfl9 (by omega) hb9 (by omega) hr (hR rr hr).1 (hR rr hr).2 (hG.2.2.2.2.2.2.2 rr hr)
              subst hM2
              refine x_V3i (P := fun r3 M3 => r3 = (tlW w pp cc n rr (nlW w rr)).getD (nI 0) ∧ M3 = cR M S2 U 32 w) 3 dX0_cost_50 kG_X0_X3_costOf kP_X3_costOf (T := TX3) (N := 12) rfl (show 32 < fc_nx M by have := hL.1; omega) hL.sh0 (by omega) (by decide) (Nat.le_of_ble_eq_true rfl) ⟨o2, _, ⟨_, ho2, rfl, rfl⟩, hC2⟩ (fun r3 M3 h => ?_)
              obtain ⟨e1, e2⟩ := h
              subst e1
              subst e2
              have hO := hO.sf hS2
              refine x_istore dX0_cost_53 (by decide) rfl ?_
              refine x_aload_n dX0_cost_55 rfl ?_
              refine k_Fref 17 hO.1 rfl (by decide) rfl dX0_cost_56 q415 ?_
              refine k_tgetfN 8 hL dX0_cost_59 (by decide) q364 ?_
              refine x_top h8 ?_
              refine x_ifB_eq (tgt := 71) dX0_cost_62 (by decide) (fun hc62 => ?_) (fun hc62 => ?_)
              · refine x_iload dX0_cost_71 rfl ?_
                have e9 : coQ w n (nI pp) (nI cc) (nI rr) = match tlW w pp cc n rr (nlW w rr) with | none => -100000000 | some v => v := by rw [coQ, hG.2.2.1, if_pos hc5, if_pos (by rw [hcp]; exact hc21), if_pos hc29, if_pos hc36, nI_clamp (by omega), nI_clamp (by omega), nI_clamp (by omega)]; rfl
                rcases ht : tlW w pp cc n rr (nlW w rr) with _ | v9
                · exact absurd ht hc62
                · rw [ht] at e9
                  exact x_iret dX0_cost_73 rfl rfl ⟨by rw [e9]; rfl, S2, rfl, hS2⟩
              · refine x_ldcw dX0_cost_65 q994 ?_
                refine x_goto (tgt := 73) dX0_cost_68 (by decide) ?_
                have e9 : coQ w n (nI pp) (nI cc) (nI rr) = match tlW w pp cc n rr (nlW w rr) with | none => -100000000 | some v => v := by rw [coQ, hG.2.2.1, if_pos hc5, if_pos (by rw [hcp]; exact hc21), if_pos hc29, if_pos hc36, nI_clamp (by omega), nI_clamp (by omega), nI_clamp (by omega)]; rfl
                rw [hc62] at e9
                exact x_iret dX0_cost_73 rfl rfl ⟨by rw [e9], S2, rfl, hS2⟩
          · refine x_ldcw dX0_cost_39 q994 ?_
            have e9 : coQ w n (nI pp) x2 x3 = -100000000 := by rw [coQ, hG.2.2.1, if_pos hc5, if_pos (by rw [hcp]; exact hc21), if_pos hc29, if_neg hc36]
            exact x_iret dX0_cost_42 rfl rfl ⟨by rw [e9], S, rfl, SF.refl⟩
def stA (S : tT) (ν : Nat) (A : Nat → Int32) : tT := fun a k => if a = ν then A k else S a k
theorem stA_s {ν i : Nat} {A : Nat → Int32} : stA S ν A ν i = A i := if_pos rfl
theorem stA_n {ν a i : Nat} {A : Nat → Int32} (h : a ≠ ν) : stA S ν A a i = S a i := if_neg h
theorem stA_tu {ν i : Nat} {A : Nat → Int32} {x : Int32} : tu (stA S ν A) ν i x = stA S ν (up A i x) := by
  funext a k
  show (if a = ν ∧ k = i then x else if a = ν then A k else S a k) = (if a = ν then (if k = i then x else A k) else S a k)
  by_cases h : a = ν
  · by_cases h2 : k = i
    · rw [if_pos ⟨h, h2⟩, if_pos h, if_pos h2]
    · rw [if_neg (fun z => h2 z.2), if_pos h, if_pos h, if_neg h2]
  · rw [if_neg (fun z => h z.1), if_neg h, if_neg h]
theorem stA_self {ν : Nat} : stA S ν (S ν) = S := by
  funext a k
  by_cases h : a = ν
  · subst h; exact stA_s
  · exact stA_n h
def suL (w : Nat → Int32) (n : Nat) : Nat → Nat → (Nat → Int32) → (Nat → Int32)
  | 0, _, A => A
  | k + 1, i, A => if i < n then (if w (820 + 8 * i + 3) < nI 2 then suL w n k (i + 1) A else if w (820 + 8 * i + 3) = nI 3 then
      suL w n k (i + 1) (up (up (up (up A 0 (A 0 + (w (820 + 8 * i + 5) - w (820 + 8 * i + 0)))) 2 (if A 2 < w (820 + 8 * i + 5) - w (820 + 8 * i + 0) then w (820 + 8 * i + 5) - w (820 + 8 * i + 0) else A 2)) 1 (A 1 + (w (820 + 8 * i + 6) - w (820 + 8 * i + 5)))) 3 (A 3 + nI 1))
      else suL w n k (i + 1) (up (up A 0 (A 0 + (w (820 + 8 * i + 5) - w (820 + 8 * i + 0)))) 2 (if A 2 < w (820 + 8 * i + 5) - w (820 + 8 * i + 0) then w (820 + 8 * i + 5) - w (820 + 8 * i + 0) else A 2))) else A
def suQ (w : Nat → Int32) (n : Nat) (x : Int32) (A : Nat → Int32) : Int32 := if nI 0 ≤ x ∧ x ≤ nI 3 then suL w n (n + 1) 0 A x.toNatClampNeg else -1
/-- an answer, with a base that may have grown -/
def gr_i (M : fc_M) (S : tT) (U : tU) (w : Nat → Int32) (r : Int32) : Outcome → fc_M → Prop := fun o M2 => o = .returned (some (.int r)) ∧ ∃ M' S' U', M2 = cR M' S' U' 32 w ∧ xt M M' ∧ (∀ a k, a < fc_nx M → S' a k = S a k) ∧ ∀ a k, a < fc_nx M → U' a k = U a k
set_option maxHeartbeats 1000000 in
theorem m_sums {n0 s0 : Nat} (hL : LT g M 32) (hF : LF g M) (hO1 : LF g M) {n ν : Nat} (hn : n ≤ 60) (hw : w 2 = nI n) (hν : ν < fc_nx M) (hν2 : 99 ≤ ν) (hsν : fc_sh M ν = .inr (.int, 4)) {x : Int32} : ∀ (k i : Nat) (A : Nat → Int32) (o4 : Option Value), i ≤ n → n < i + k → fc_X g l yX0_sums cX0_sums 5 (some .int) 2 n0 s0 (cR M (stA S ν A) U 32 w) 6 [some (.ref (fc_B g + 0)), some (.int x), some (.ref (fc_B g + ν)), some (.int (nI i)), o4] [] (fun o M2 => o = .returned (some (.int (if nI 0 ≤ x ∧ x ≤ nI 3 then suL w n k i A x.toNatClampNeg else -1))) ∧ M2 = cR M (stA S ν (suL w n k i A)) U 32 w) := by
  intro k
  induction k with
  | zero => intro i A o4 h1 h2; omega
  | succ k ih =>
    intro i A o4 h1 h2
    have hO : LF g M ∧ True := ⟨hF, trivial⟩
    refine x_iload_n dX0_sums_6 rfl ?_
    refine x_aload_n dX0_sums_7 rfl ?_
    refine k_Fref 17 hO.1 rfl (by decide) rfl dX0_sums_8 q415 ?_
    refine k_tget 2 hL dX0_sums_11 (by decide) q352 ?_
    refine x_top hw ?_
    refine x_icmpN_ge (tgt := 119) dX0_sums_14 (by decide) (by omega) (by omega) (fun hc14 => ?_) (fun hc14 => ?_)
    · refine x_iload_n dX0_sums_119 rfl ?_
      refine x_ic0 dX0_sums_120 ?_
      refine x_ic3 dX0_sums_121 ?_
      refine k_S3i dX0_sums_122 kG_X0_X0_isIn kP_X0_isIn (by omega) (by decide) (Nat.le_of_ble_eq_true rfl) d_isIn ?_
      refine x_ifB_eq (tgt := 134) dX0_sums_125 (by decide) (fun hc125 => ?_) (fun hc125 => ?_)
      · refine x_icm1 dX0_sums_134 ?_
        rw [suL, if_neg (Nat.not_lt.mpr hc14)]
        exact x_iret dX0_sums_135 rfl rfl ⟨by rw [if_neg hc125], rfl⟩
      · obtain ⟨m, -, hm, rfl⟩ := nI_between (by decide) hc125 (by decide)
        · refine x_aload_n dX0_sums_128 rfl ?_
          refine x_iload_n dX0_sums_129 rfl ?_
          refine k_ald (a := ν) dX0_sums_130 (show ν < fc_nx M by omega) hsν (by decide) (by omega) (by omega) ?_
          refine x_top (w := A m) stA_s ?_
          refine x_goto (tgt := 135) dX0_sums_131 (by decide) ?_
          rw [suL, if_neg (Nat.not_lt.mpr hc14)]
          exact x_iret dX0_sums_135 rfl rfl ⟨by rw [if_pos hc125, nI_clamp (by omega)], rfl⟩
    · refine x_aload_n dX0_sums_17 rfl ?_
      refine k_Fref 17 hO.1 rfl (by decide) rfl dX0_sums_18 q415 ?_
      refine k_people 0 rfl hL dX0_sums_21 q348 ?_
      refine x_iload_n dX0_sums_24 rfl ?_
      refine k_pald hL dX0_sums_25 (by omega) ?_
      refine x_astore dX0_sums_26 (by decide) rfl ?_
      refine x_aload dX0_sums_28 rfl ?_
      refine k_pget 3 hL dX0_sums_30 (by decide) q278 (by omega) ?_
      refine x_ic2 dX0_sums_33 ?_
      refine x_icmp_ge (tgt := 40) dX0_sums_34 (by decide) (fun hc34 => ?_) (fun hc34 => ?_)
      · refine x_aload_n dX0_sums_40 rfl ?_
        refine x_ic0 dX0_sums_41 ?_
        refine x_dup2 dX0_sums_42 rfl rfl ?_
        refine k_ald (a := ν) dX0_sums_43 (show ν < fc_nx M by omega) hsν (by decide) (by decide) (by omega) ?_
        refine x_top (w := A 0) stA_s ?_
        refine x_aload dX0_sums_44 rfl ?_
        refine k_pget 5 hL dX0_sums_46 (by decide) q284 (by omega) ?_
        refine x_aload dX0_sums_49 rfl ?_
        refine k_pget 0 hL dX0_sums_51 (by decide) q269 (by omega) ?_
        refine x_isub dX0_sums_54 ?_
        refine x_iadd dX0_sums_55 ?_
        refine k_ast (a := ν) dX0_sums_56 (show ν < fc_nx M by omega) hsν (by decide) (by decide) (by omega) ?_
        rw [stA_tu]
        refine x_aload_n dX0_sums_57 rfl ?_
        refine x_ic2 dX0_sums_58 ?_
        refine x_aload_n dX0_sums_59 rfl ?_
        refine x_ic2 dX0_sums_60 ?_
        refine k_ald (a := ν) dX0_sums_61 (show ν < fc_nx M by omega) hsν (by decide) (by decide) (by omega) ?_
        refine x_top (w := A 2) (by rw [stA_s, up_n (by decide)]) ?_
        refine x_aload dX0_sums_62 rfl ?_
        refine k_pget 5 hL dX0_sums_64 (by decide) q284 (by omega) ?_
        refine x_aload dX0_sums_67 rfl ?_
        refine k_pget 0 hL dX0_sums_69 (by decide) q269 (by omega) ?_
        refine x_isub dX0_sums_72 ?_
        refine x_mmax dX0_sums_73 q1000 (by omega) (Nat.le_of_ble_eq_true rfl) ?_
        refine k_ast (a := ν) dX0_sums_76 (show ν < fc_nx M by omega) hsν (by decide) (by decide) (by omega) ?_
        rw [stA_tu]
        refine x_aload dX0_sums_77 rfl ?_
        refine k_pget 3 hL dX0_sums_79 (by decide) q278 (by omega) ?_
        refine x_ic3 dX0_sums_82 ?_
        refine x_icmp_eq (tgt := 89) dX0_sums_83 (by decide) (fun hc83 => ?_) (fun hc83 => ?_)
        · refine x_aload_n dX0_sums_89 rfl ?_
          refine x_ic1 dX0_sums_90 ?_
          refine x_dup2 dX0_sums_91 rfl rfl ?_
          refine k_ald (a := ν) dX0_sums_92 (show ν < fc_nx M by omega) hsν (by decide) (by decide) (by omega) ?_
          refine x_top (w := A 1) (by rw [stA_s, up_n (by decide), up_n (by decide)]) ?_
          refine x_aload dX0_sums_93 rfl ?_
          refine k_pget 6 hL dX0_sums_95 (by decide) q287 (by omega) ?_
          refine x_aload dX0_sums_98 rfl ?_
          refine k_pget 5 hL dX0_sums_100 (by decide) q284 (by omega) ?_
          refine x_isub dX0_sums_103 ?_
          refine x_iadd dX0_sums_104 ?_
          refine k_ast (a := ν) dX0_sums_105 (show ν < fc_nx M by omega) hsν (by decide) (by decide) (by omega) ?_
          rw [stA_tu]
          refine x_aload_n dX0_sums_106 rfl ?_
          refine x_ic3 dX0_sums_107 ?_
          refine x_dup2 dX0_sums_108 rfl rfl ?_
          refine k_ald (a := ν) dX0_sums_109 (show ν < fc_nx M by omega) hsν (by decide) (by decide) (by omega) ?_
          refine x_top (w := A 3) (by rw [stA_s, up_n (by decide), up_n (by decide), up_n (by decide)]) ?_
          refine x_ic1 dX0_sums_110 ?_
          refine x_iadd dX0_sums_111 ?_
          refine k_ast (a := ν) dX0_sums_112 (show ν < fc_nx M by omega) hsν (by decide) (by decide) (by omega) ?_
          rw [stA_tu]
          refine x_iincN (n := 1) dX0_sums_113 (by decide) rfl (by decide) rfl ?_
          refine x_goto (tgt := 6) dX0_sums_116 (by decide) ?_
          rw [suL, if_pos hc14, if_neg (Int32.not_lt.mpr hc34), if_pos hc83]
          exact ih (i + 1) _ _ (by omega) (by omega)
        · refine x_goto (tgt := 113) dX0_sums_86 (by decide) ?_
          refine x_iincN (n := 1) dX0_sums_113 (by decide) rfl (by decide) rfl ?_
          refine x_goto (tgt := 6) dX0_sums_116 (by decide) ?_
          rw [suL, if_pos hc14, if_neg (Int32.not_lt.mpr hc34), if_neg hc83]
          exact ih (i + 1) _ _ (by omega) (by omega)
      · refine x_goto (tgt := 113) dX0_sums_37 (by decide) ?_
        refine x_iincN (n := 1) dX0_sums_113 (by decide) rfl (by decide) rfl ?_
        refine x_goto (tgt := 6) dX0_sums_116 (by decide) ?_
        rw [suL, if_pos hc14, if_pos (Int32.not_le.mp hc34)]
        exact ih (i + 1) _ _ (by omega) (by omega)
set_option maxHeartbeats 1000000 in
theorem d_sums (hL : LT g M 32) (hF : LF g M) {n : Nat} (hn : n ≤ 60) (hw : w 2 = nI n) {x : Int32} : fc_CX g l yX0_sums cX0_sums 5 (some .int) 2 [.ref (fc_B g + 0), .int x] (cR M S U 32 w) (gr_i M S U w (suQ w n x (fun _ => 0))) := by
  refine fc_enter (by decide) (Nat.le_of_ble_eq_true rfl) rfl ?_
  have hL1 := hL.1
  refine x_ic4 dX0_sums_0 ?_
  refine x_newa (ty := .int) dX0_sums_1 rfl (by decide) q201 (by decide) (by decide) ?_
  refine x_eqM ((cl_new (M := M) (S := clr S 32 w) (U := U) (sh := .inr (.int, 4)) (N := 4) (fv := fun _ => .int 0) (fun _ _ => rfl) (fun k hk => absurd hk (by show ¬ (1 = 2); decide))).trans (congrArg (fun z => cl (fc_new M (.inr (.int, 4)) 4 (fun _ => .int 0)) z (tz1 U (fc_nx M))) (clr_tz hL).symm)) ?_
  refine x_astore_n dX0_sums_3 (by decide) rfl ?_
  refine x_ic0 dX0_sums_4 ?_
  refine x_istore_n dX0_sums_5 (by decide) rfl ?_
  have e0 : tz0 S (fc_nx M) = stA (tz0 S (fc_nx M)) (fc_nx M) (fun _ => 0) := by
    conv => lhs; rw [← stA_self (S := tz0 S (fc_nx M)) (ν := fc_nx M)]
    congr 1
    funext k
    exact if_pos rfl
  rw [e0]
  obtain ⟨o, Mf, ⟨q1, q2⟩, q3⟩ := m_sums (g := g) (l := l) (S := tz0 S (fc_nx M)) (U := tz1 U (fc_nx M)) (w := w) (LT_xt hL xt_new) (LF_xt hF xt_new) (LF_xt hF xt_new) hn hw (ν := fc_nx M) (Nat.lt_succ_self _) (by omega) (if_pos rfl) (x := x) (n0 := fc_nx M) (s0 := fc_sl M) (n + 1) 0 (fun _ => 0) none (by omega) (by omega)
  exact ⟨o, Mf, ⟨q1, _, _, _, q2, xt_new, fun a k ha => (stA_n (Nat.ne_of_lt ha)).trans (tz0_lt ha), fun a k ha => if_neg (Nat.ne_of_lt ha)⟩, q3⟩
end T99ZD
