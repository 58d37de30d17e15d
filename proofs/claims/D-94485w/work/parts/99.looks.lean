set_option maxRecDepth 100000
section T99
variable {g : fc_G} {l : Launch} {M : fc_M} {S : tT} {U : tU} {β : Nat} {w : Nat → Int32} {π f nC : Nat}
theorem k_V1xT {y : MethodName} {cc : ByteArray} {nL : Nat} {ret : Option FieldType} {d n0 s0 : Nat} {pc : Nat} {L : List (Option Value)} {st : List Value} {Q : Outcome → fc_M → Prop} {y2 : MethodName} {c2 : ByteArray} {n2 d2 i c a : Nat} {r2 : Option FieldType} {a1 : Value} {r : Int32} {w2 : Nat → Int32} (hL : LT g M β) (hd : decode cc pc = .ok (.invokevirtual i, 3)) (hG : GoodIn lw_all (wsV y.cls i y2.cls y2 (ws_ y2 c2 n2 r2))) (hpar : kPar y2 1) (hcl : y2.cls = RX3) (hdd : d2 + 1 ≤ d) (hn2 : n2 ≤ 45) (hrest : (st.map fun v => v.category).sum ≤ 8) (hC : fc_CX g l y2 c2 n2 r2 d2 [.ref (fc_B g + β), a1] (cR M S U β w) (cx_i M S U β f c a r w2)) (kk : ∀ U', FBx U' β f c a w2 → UF U U' β → fc_X g l y cc nL ret d n0 s0 (cR M S U' β w2) (pc + 3) L (.int r :: st) Q) : fc_X g l y cc nL ret d n0 s0 (cR M S U β w) pc L (a1 :: .ref (fc_B g + β) :: st) Q := by
  obtain ⟨o, M3, ⟨h1, U', h2, h3, h4⟩, hc⟩ := hC
  subst h2
  exact x_V1i (P := fun r3 M3 => r3 = r ∧ M3 = cR M S U' β w2) 3 hd hG hpar (T := TX3) (N := 12) (by rw [hcl]; rfl) (show β < fc_nx M by have := hL.1; omega) hL.sh0 hdd hn2 hrest ⟨o, _, ⟨r, h1, rfl, rfl⟩, hc⟩ (fun r3 M3 h => by obtain ⟨e1, e2⟩ := h; subst e1; subst e2; exact kk U' h3 h4)
theorem lk_end {c a : Nat} {x s m : Int32} (hc : c < 4) (ha : a < 80) : clr S β (up (up w (10 + 20 * c + 2) s) (10 + 20 * c + 3) m) = clr S β (up (up (up w (420 + 80 * c + a) x) (10 + 20 * c + 2) s) (10 + 20 * c + 3) m) := by
  rw [up_comm (w := w) (i := 420 + 80 * c + a) (by omega), up_comm (i := 420 + 80 * c + a) (by omega), clr_fn (i := 420 + 80 * c + a) (by omega)]
theorem d_aheadN {n c a : Nat} {u : Bool} (hL : LT g M β) (hc : c < 4) (ha : w (10 + 20 * c + 0) = nI a) (haf : a < f) (hf : f ≤ 80) (hT : ∀ p, p < n → ∀ t, tO w c p = some t → t < f) (hS : tgS w c n f (U β 9) (U β 10) a) (hy : w (10 + 20 * c + 1) = wy u) : fc_CX g l yX3_hasAhead cX3_hasAhead 3 (some .boolean) 1 [.ref (fc_B g + β), .ref (fc_B g + (β + 63 + c))] (cR M S U β w) (fc_re (bI (¬ nrW w c a u f n = none)) (cR M S U β w)) := by
  have e : @bI (ahU (U β 9) (U β 10) u a) (Classical.propDecidable _) = bI (¬ nrW w c a u f n = none) := @bI_congr _ _ (Classical.propDecidable _) _ (ahU_N hT hS haf)
  rw [← e]
  cases u with
  | true => exact d_aheadU hL hc ha (by omega) hy
  | false => exact d_aheadD hL hc ha (by omega) hy
theorem kG_X3_X3_goIn : GoodIn lw_all (wsV RX3 213 RX3 yX3_goIn (ws_ yX3_goIn cX3_goIn 6 (some .int))) := lw_V q973 q975 qs35 q121 q976
theorem kP_X3_goIn : kPar yX3_goIn 1 := by decide +kernel
set_option maxHeartbeats 2000000 in
theorem m_looks2 {n0 s0 : Nat} (hL : LT g M β) (hO : PC g M S π β f nC w) {n : Nat} (hn : n ≤ 60) (hw : w 2 = nI n) {c a ps : Nat} (hc : c < 4) (hcn : c < nC) (ha : w (10 + 20 * c + 0) = nI a) (haf : a < f) (hpj : S β 6 = -1 ∨ (S β 7 = nI ps ∧ ps < f)) (hps8 : ps < 80) (hJ : JK w (S β 6) ps n) (hF : FBx U β f c a w) {n1 : Nat} (hn1 : n1 ≤ 61) {U0 : tU} (hUF : UF U0 U β) {P : Prop} [Decidable P] (hP : P ↔ w (420 + 80 * c + a) = nI 1) : fc_X g l yX3_looks cX3_looks 5 (none) 4 n0 s0 (cR M S U β w) 65 [some (.ref (fc_B g + β)), some (.int (nI c)), some (.ref (fc_B g + (β + 63 + c))), some (.int (nI n1)), some (.int (bI P))] [] (cq_v M S U0 β f (lk2 (S β 6) ps c n a n1 w)) := by
  have hf80 := hO.2.2.2.2.2.1.2.2.2.1
  refine x_iload_n dX3_looks_65 rfl ?_
  refine x_aload_n dX3_looks_66 rfl ?_
  refine x_iload_n dX3_looks_67 rfl ?_
  refine k_V1xT hL dX3_looks_68 kG_X3_X3_goIn kP_X3_goIn rfl (by omega) (by decide) (Nat.le_of_ble_eq_true rfl) (d_goIn hL hO hn hw hc hcn ha haf hpj hps8 hJ hF) (fun U3 hF3 hU3 => ?_)
  have hfun := giW_fun (c := c) (a := a) (pr := S β 6) (ps := ps) (n := n) (by omega) (by omega) (n + 1) 0 w 0 (cnt (rdp w 2 (nI c)) n) hJ ha hc
  have hfr : ∀ q, q < 420 → (giW (S β 6) ps c n (n + 1) 0 w 0 (cnt (rdp w 2 (nI c)) n)).1 q = w q := fun q hq => giW_fr (fun p hp => by omega) (by omega) (n + 1) 0 w 0 _
  have hle := giW_le (pr := S β 6) (ps := ps) (c := c) (n := n) (n + 1) 0 w 0 (cnt (rdp w 2 (nI c)) n)
  rw [lk2]
  generalize (giW (S β 6) ps c n (n + 1) 0 w 0 (cnt (rdp w 2 (nI c)) n)).1 = w3 at hF3 hfun hfr ⊢
  generalize (giW (S β 6) ps c n (n + 1) 0 w 0 (cnt (rdp w 2 (nI c)) n)).2 = n2 at hle ⊢
  refine x_iaddN dX3_looks_71 ?_
  refine x_istore_n dX3_looks_72 (by decide) rfl ?_
  refine x_aload_n dX3_looks_73 rfl ?_
  refine x_iload_n dX3_looks_74 rfl ?_
  refine x_ifN_gt (tgt := 83) dX3_looks_75 (by decide) (by omega) (fun hc75 => ?_) (fun hc75 => ?_)
  · refine x_ic2 dX3_looks_83 ?_
    refine x_goto (tgt := 99) dX3_looks_84 (by decide) ?_
    refine k_cput 2 2 rfl hL dX3_looks_99 (by decide) q315 rfl (by omega) ?_
    have hO := hO.fr (v' := up w3 (10 + 20 * c + 2) (nI 2)) (fun i hi => by rcases hi with hi | hi | ⟨c9, j9, g1, g2, hi⟩ <;> rw [up_n (by omega), hfr i (by omega)])
    refine x_aload_n dX3_looks_102 rfl ?_
    refine x_aload_n dX3_looks_103 rfl ?_
    refine k_cget 2 2 rfl hL dX3_looks_104 (by decide) q315 (by omega) ?_
    refine x_top (w := nI 2) up_s ?_
    refine x_ic2 dX3_looks_107 ?_
    refine x_icmpN_ne (tgt := 141) dX3_looks_108 (by decide) (by omega) (by omega) (fun hc108 => ?_) (fun hc108 => ?_)
    · exact absurd rfl hc108
    · refine x_aload_n dX3_looks_111 rfl ?_
      refine k_this0 11 rfl hL dX3_looks_112 q367 ?_
      refine k_planN hO dX3_looks_115 q411 ?_
      refine k_plA 5 2 hO rfl (by decide) dX3_looks_118 q222 ?_
      refine x_iload_n dX3_looks_121 rfl ?_
      refine k_plL 2 8 rfl hO (by decide) dX3_looks_122 (by omega) ?_
      refine x_top (up_n (by omega)) ?_
      refine x_aload_n dX3_looks_123 rfl ?_
      refine k_this0 11 rfl hL dX3_looks_124 q367 ?_
      refine k_planN hO dX3_looks_127 q411 ?_
      refine k_plA 6 3 hO rfl (by decide) dX3_looks_130 q225 ?_
      refine x_iload_n dX3_looks_133 rfl ?_
      refine k_plL 3 9 rfl hO (by decide) dX3_looks_134 (by omega) ?_
      refine x_top (up_n (by omega)) ?_
      refine x_iload_n dX3_looks_135 rfl ?_
      refine x_imul dX3_looks_136 ?_
      refine x_top (Int32.mul_comm _ _) ?_
      refine x_iadd dX3_looks_137 ?_
      refine x_goto (tgt := 165) dX3_looks_138 (by decide) ?_
      refine k_cput 3 3 rfl hL dX3_looks_165 (by decide) q318 rfl (by omega) ?_
      have e9 : stW c (n1 + n2) (0 < n1 + n2 ∨ w3 (420 + 80 * c + a) = nI 1) (up w3 (420 + 80 * c + a) (nI 0)) = up (up (up w3 (420 + 80 * c + a) (nI 0)) (10 + 20 * c + 2) (nI 2)) (10 + 20 * c + 3) (w3 (10 + 20 * c + 8) + nI (n1 + n2) * w3 (10 + 20 * c + 9)) := by
        rw [stW, up_n (w := w3) (i := 420 + 80 * c + a) (v := nI 0) (show 10 + 20 * c + 1 ≠ 420 + 80 * c + a by omega), up_n (w := w3) (i := 420 + 80 * c + a) (v := nI 0) (show 10 + 20 * c + 8 ≠ 420 + 80 * c + a by omega), up_n (w := w3) (i := 420 + 80 * c + a) (v := nI 0) (show 10 + 20 * c + 9 ≠ 420 + 80 * c + a by omega), up_n (w := w3) (i := 420 + 80 * c + a) (v := nI 0) (show 10 + 20 * c + 7 ≠ 420 + 80 * c + a by omega), if_pos (Or.inl hc75), if_pos (Or.inl hc75)]
      rw [e9]
      refine x_vret dX3_looks_168 rfl ⟨rfl, S, U3, congrArg (fun z => cl M z U3) (lk_end hc (by omega)), FBx_end hF3 (fun c9 hc9 q9 hq9 hne => by rw [up_n (by omega), up_n (by omega), up_n (by omega)]) (by rw [up_n (by omega), up_n (by omega), up_s]; decide), hUF.trans hU3, SF.refl⟩
  · refine x_iload dX3_looks_78 rfl ?_
    refine x_ifB_eq (tgt := 87) dX3_looks_80 (by decide) (fun hc80 => ?_) (fun hc80 => ?_)
    · refine x_aload_n dX3_looks_87 rfl ?_
      refine k_cget 1 1 rfl hL dX3_looks_88 (by decide) q312 (by omega) ?_
      refine x_if_eq (tgt := 98) dX3_looks_91 (by decide) (fun hc91 => ?_) (fun hc91 => ?_)
      · refine x_ic0 dX3_looks_98 ?_
        refine k_cput 2 2 rfl hL dX3_looks_99 (by decide) q315 rfl (by omega) ?_
        have hO := hO.fr (v' := up w3 (10 + 20 * c + 2) (nI 0)) (fun i hi => by rcases hi with hi | hi | ⟨c9, j9, g1, g2, hi⟩ <;> rw [up_n (by omega), hfr i (by omega)])
        refine x_aload_n dX3_looks_102 rfl ?_
        refine x_aload_n dX3_looks_103 rfl ?_
        refine k_cget 2 2 rfl hL dX3_looks_104 (by decide) q315 (by omega) ?_
        refine x_top (w := nI 0) up_s ?_
        refine x_ic2 dX3_looks_107 ?_
        refine x_icmpN_ne (tgt := 141) dX3_looks_108 (by decide) (by omega) (by omega) (fun hc108 => ?_) (fun hc108 => ?_)
        · refine x_aload_n dX3_looks_141 rfl ?_
          refine k_cget 2 2 rfl hL dX3_looks_142 (by decide) q315 (by omega) ?_
          refine x_top (w := nI 0) up_s ?_
          refine x_ic1 dX3_looks_145 ?_
          refine x_icmpN_ne (tgt := 164) dX3_looks_146 (by decide) (by omega) (by omega) (fun hc146 => ?_) (fun hc146 => ?_)
          · refine x_ic0 dX3_looks_164 ?_
            refine k_cput 3 3 rfl hL dX3_looks_165 (by decide) q318 rfl (by omega) ?_
            have e9 : stW c (n1 + n2) (0 < n1 + n2 ∨ w3 (420 + 80 * c + a) = nI 1) (up w3 (420 + 80 * c + a) (nI 0)) = up (up (up w3 (420 + 80 * c + a) (nI 0)) (10 + 20 * c + 2) (nI 0)) (10 + 20 * c + 3) (nI 0) := by
              rw [stW, up_n (w := w3) (i := 420 + 80 * c + a) (v := nI 0) (show 10 + 20 * c + 1 ≠ 420 + 80 * c + a by omega), up_n (w := w3) (i := 420 + 80 * c + a) (v := nI 0) (show 10 + 20 * c + 8 ≠ 420 + 80 * c + a by omega), up_n (w := w3) (i := 420 + 80 * c + a) (v := nI 0) (show 10 + 20 * c + 9 ≠ 420 + 80 * c + a by omega), up_n (w := w3) (i := 420 + 80 * c + a) (v := nI 0) (show 10 + 20 * c + 7 ≠ 420 + 80 * c + a by omega), if_neg (fun z => z.elim (fun z => absurd hc75 (Nat.ne_of_gt z)) (fun z => hc80 (hP.mpr (hfun.symm.trans z)))), if_pos hc91, if_neg (fun z => z.elim (fun z => absurd hc75 (Nat.ne_of_gt z)) (fun z => hc80 (hP.mpr (hfun.symm.trans z)))), if_pos hc91]
            rw [e9]
            refine x_vret dX3_looks_168 rfl ⟨rfl, S, U3, congrArg (fun z => cl M z U3) (lk_end hc (by omega)), FBx_end hF3 (fun c9 hc9 q9 hq9 hne => by rw [up_n (by omega), up_n (by omega), up_n (by omega)]) (by rw [up_n (by omega), up_n (by omega), up_s]; decide), hUF.trans hU3, SF.refl⟩
          · exact absurd hc146 (by decide)
        · exact absurd hc108 (by decide)
      · refine x_ic1 dX3_looks_94 ?_
        refine x_goto (tgt := 99) dX3_looks_95 (by decide) ?_
        refine k_cput 2 2 rfl hL dX3_looks_99 (by decide) q315 rfl (by omega) ?_
        have hO := hO.fr (v' := up w3 (10 + 20 * c + 2) (nI 1)) (fun i hi => by rcases hi with hi | hi | ⟨c9, j9, g1, g2, hi⟩ <;> rw [up_n (by omega), hfr i (by omega)])
        refine x_aload_n dX3_looks_102 rfl ?_
        refine x_aload_n dX3_looks_103 rfl ?_
        refine k_cget 2 2 rfl hL dX3_looks_104 (by decide) q315 (by omega) ?_
        refine x_top (w := nI 1) up_s ?_
        refine x_ic2 dX3_looks_107 ?_
        refine x_icmpN_ne (tgt := 141) dX3_looks_108 (by decide) (by omega) (by omega) (fun hc108 => ?_) (fun hc108 => ?_)
        · refine x_aload_n dX3_looks_141 rfl ?_
          refine k_cget 2 2 rfl hL dX3_looks_142 (by decide) q315 (by omega) ?_
          refine x_top (w := nI 1) up_s ?_
          refine x_ic1 dX3_looks_145 ?_
          refine x_icmpN_ne (tgt := 164) dX3_looks_146 (by decide) (by omega) (by omega) (fun hc146 => ?_) (fun hc146 => ?_)
          · exact absurd rfl hc146
          · refine x_aload_n dX3_looks_149 rfl ?_
            refine k_this0 11 rfl hL dX3_looks_150 q367 ?_
            refine k_planN hO dX3_looks_153 q411 ?_
            refine k_plA 4 1 hO rfl (by decide) dX3_looks_156 q219 ?_
            refine x_iload_n dX3_looks_159 rfl ?_
            refine k_plL 1 7 rfl hO (by decide) dX3_looks_160 (by omega) ?_
            refine x_top (up_n (by omega)) ?_
            refine x_goto (tgt := 165) dX3_looks_161 (by decide) ?_
            refine k_cput 3 3 rfl hL dX3_looks_165 (by decide) q318 rfl (by omega) ?_
            have e9 : stW c (n1 + n2) (0 < n1 + n2 ∨ w3 (420 + 80 * c + a) = nI 1) (up w3 (420 + 80 * c + a) (nI 0)) = up (up (up w3 (420 + 80 * c + a) (nI 0)) (10 + 20 * c + 2) (nI 1)) (10 + 20 * c + 3) (w3 (10 + 20 * c + 7)) := by
              rw [stW, up_n (w := w3) (i := 420 + 80 * c + a) (v := nI 0) (show 10 + 20 * c + 1 ≠ 420 + 80 * c + a by omega), up_n (w := w3) (i := 420 + 80 * c + a) (v := nI 0) (show 10 + 20 * c + 8 ≠ 420 + 80 * c + a by omega), up_n (w := w3) (i := 420 + 80 * c + a) (v := nI 0) (show 10 + 20 * c + 9 ≠ 420 + 80 * c + a by omega), up_n (w := w3) (i := 420 + 80 * c + a) (v := nI 0) (show 10 + 20 * c + 7 ≠ 420 + 80 * c + a by omega), if_neg (fun z => z.elim (fun z => absurd hc75 (Nat.ne_of_gt z)) (fun z => hc80 (hP.mpr (hfun.symm.trans z)))), if_neg hc91, if_neg (fun z => z.elim (fun z => absurd hc75 (Nat.ne_of_gt z)) (fun z => hc80 (hP.mpr (hfun.symm.trans z)))), if_neg hc91]
            rw [e9]
            refine x_vret dX3_looks_168 rfl ⟨rfl, S, U3, congrArg (fun z => cl M z U3) (lk_end hc (by omega)), FBx_end hF3 (fun c9 hc9 q9 hq9 hne => by rw [up_n (by omega), up_n (by omega), up_n (by omega)]) (by rw [up_n (by omega), up_n (by omega), up_s]; decide), hUF.trans hU3, SF.refl⟩
        · exact absurd hc108 (by decide)
    · refine x_ic2 dX3_looks_83 ?_
      refine x_goto (tgt := 99) dX3_looks_84 (by decide) ?_
      refine k_cput 2 2 rfl hL dX3_looks_99 (by decide) q315 rfl (by omega) ?_
      have hO := hO.fr (v' := up w3 (10 + 20 * c + 2) (nI 2)) (fun i hi => by rcases hi with hi | hi | ⟨c9, j9, g1, g2, hi⟩ <;> rw [up_n (by omega), hfr i (by omega)])
      refine x_aload_n dX3_looks_102 rfl ?_
      refine x_aload_n dX3_looks_103 rfl ?_
      refine k_cget 2 2 rfl hL dX3_looks_104 (by decide) q315 (by omega) ?_
      refine x_top (w := nI 2) up_s ?_
      refine x_ic2 dX3_looks_107 ?_
      refine x_icmpN_ne (tgt := 141) dX3_looks_108 (by decide) (by omega) (by omega) (fun hc108 => ?_) (fun hc108 => ?_)
      · exact absurd rfl hc108
      · refine x_aload_n dX3_looks_111 rfl ?_
        refine k_this0 11 rfl hL dX3_looks_112 q367 ?_
        refine k_planN hO dX3_looks_115 q411 ?_
        refine k_plA 5 2 hO rfl (by decide) dX3_looks_118 q222 ?_
        refine x_iload_n dX3_looks_121 rfl ?_
        refine k_plL 2 8 rfl hO (by decide) dX3_looks_122 (by omega) ?_
        refine x_top (up_n (by omega)) ?_
        refine x_aload_n dX3_looks_123 rfl ?_
        refine k_this0 11 rfl hL dX3_looks_124 q367 ?_
        refine k_planN hO dX3_looks_127 q411 ?_
        refine k_plA 6 3 hO rfl (by decide) dX3_looks_130 q225 ?_
        refine x_iload_n dX3_looks_133 rfl ?_
        refine k_plL 3 9 rfl hO (by decide) dX3_looks_134 (by omega) ?_
        refine x_top (up_n (by omega)) ?_
        refine x_iload_n dX3_looks_135 rfl ?_
        refine x_imul dX3_looks_136 ?_
        refine x_top (Int32.mul_comm _ _) ?_
        refine x_iadd dX3_looks_137 ?_
        refine x_goto (tgt := 165) dX3_looks_138 (by decide) ?_
        refine k_cput 3 3 rfl hL dX3_looks_165 (by decide) q318 rfl (by omega) ?_
        have e9 : stW c (n1 + n2) (0 < n1 + n2 ∨ w3 (420 + 80 * c + a) = nI 1) (up w3 (420 + 80 * c + a) (nI 0)) = up (up (up w3 (420 + 80 * c + a) (nI 0)) (10 + 20 * c + 2) (nI 2)) (10 + 20 * c + 3) (w3 (10 + 20 * c + 8) + nI (n1 + n2) * w3 (10 + 20 * c + 9)) := by
          rw [stW, up_n (w := w3) (i := 420 + 80 * c + a) (v := nI 0) (show 10 + 20 * c + 1 ≠ 420 + 80 * c + a by omega), up_n (w := w3) (i := 420 + 80 * c + a) (v := nI 0) (show 10 + 20 * c + 8 ≠ 420 + 80 * c + a by omega), up_n (w := w3) (i := 420 + 80 * c + a) (v := nI 0) (show 10 + 20 * c + 9 ≠ 420 + 80 * c + a by omega), up_n (w := w3) (i := 420 + 80 * c + a) (v := nI 0) (show 10 + 20 * c + 7 ≠ 420 + 80 * c + a by omega), if_pos (Or.inr (hfun.trans (hP.mp hc80))), if_pos (Or.inr (hfun.trans (hP.mp hc80)))]
        rw [e9]
        refine x_vret dX3_looks_168 rfl ⟨rfl, S, U3, congrArg (fun z => cl M z U3) (lk_end hc (by omega)), FBx_end hF3 (fun c9 hc9 q9 hq9 hne => by rw [up_n (by omega), up_n (by omega), up_n (by omega)]) (by rw [up_n (by omega), up_n (by omega), up_s]; decide), hUF.trans hU3, SF.refl⟩
theorem kG_X3_X3_findsTargets : GoodIn lw_all (wsV RX3 203 RX3 yX3_findsTargets (ws_ yX3_findsTargets cX3_findsTargets 4 (none))) := lw_V q945 q947 qs29 q121 q948
theorem kP_X3_findsTargets : kPar yX3_findsTargets 1 := by decide +kernel
theorem kG_X3_X3_newWay : GoodIn lw_all (wsV RX3 210 RX3 yX3_newWay (ws_ yX3_newWay cX3_newWay 5 (some .int))) := lw_V q958 q960 qs32 q121 q961
theorem kP_X3_newWay : kPar yX3_newWay 1 := by decide +kernel
theorem kG_X3_X3_hasAhead : GoodIn lw_all (wsV RX3 206 RX3 yX3_hasAhead (ws_ yX3_hasAhead cX3_hasAhead 3 (some .boolean))) := lw_V q953 q955 qs31 q121 q956
theorem kP_X3_hasAhead : kPar yX3_hasAhead 1 := by decide +kernel
set_option maxHeartbeats 2000000 in
theorem m_looks1 {n0 s0 : Nat} (hL : LT g M β) (hO : PC g M S π β f nC w) {n : Nat} (hn : n ≤ 60) (hw : w 2 = nI n) {c a ps : Nat} (hc : c < 4) (hcn : c < nC) (ha : w (10 + 20 * c + 0) = nI a) (haf : a < f) (hpj : S β 6 = -1 ∨ (S β 7 = nI ps ∧ ps < f)) (hps8 : ps < 80) (hJ : JK w (S β 6) ps n) (hF : FBx U β f c a w) (hPI : PI w n f) (hwy : w (10 + 20 * c + 1) = 0 ∨ w (10 + 20 * c + 1) = nI 1 ∨ w (10 + 20 * c + 1) = -1) {n1 : Nat} (hn1 : n1 ≤ 61) {U0 : tU} (hUF : UF U0 U β) {P : Prop} [Decidable P] (hP : P ↔ w (420 + 80 * c + a) = nI 1) : fc_X g l yX3_looks cX3_looks 5 (none) 4 n0 s0 (cR M S U β w) 36 [some (.ref (fc_B g + β)), some (.int (nI c)), some (.ref (fc_B g + (β + 63 + c))), some (.int (nI n1)), some (.int (bI P))] [] (cq_v M S U0 β f (lk1 (S β 6) ps c n a f n1 w)) := by
  have hf80 := hO.2.2.2.2.2.1.2.2.2.1
  have hT : ∀ p, p < n → ∀ t, tO w c p = some t → t < f := fun p hp t ht => tO_lt hPI hf80 hp ht
  have hS := ft_S (β := β) (U := U) hc hf80 hT hF
  rcases hwy with hy | hy | hy
  · refine x_aload_n dX3_looks_36 rfl ?_
    refine x_iload_n dX3_looks_37 rfl ?_
    refine k_V1vT hL dX3_looks_38 kG_X3_X3_findsTargets kP_X3_findsTargets rfl (by omega) (by decide) (Nat.le_of_ble_eq_true rfl) (d_finds hL hn hw hPI hf80 hc) ?_
    refine x_aload_n dX3_looks_41 rfl ?_
    refine k_cget 1 1 rfl hL dX3_looks_42 (by decide) q312 (by omega) ?_
    refine x_top hy ?_
    refine x_if_eq (tgt := 56) dX3_looks_45 (by decide) (fun hc45 => ?_) (fun hc45 => ?_)
    · refine x_aload_n dX3_looks_56 rfl ?_
      refine x_aload_n dX3_looks_57 rfl ?_
      refine x_iload_n dX3_looks_58 rfl ?_
      refine k_V1iT hL dX3_looks_59 kG_X3_X3_newWay kP_X3_newWay rfl (by omega) (by decide) (Nat.le_of_ble_eq_true rfl) (d_newWay hL hO hn hw hc ha haf) ?_
      refine x_top (cn_nw hT hS haf ha) ?_
      refine k_cput 1 1 rfl hL dX3_looks_62 (by decide) q312 rfl (by omega) ?_
      rw [lk1, if_pos (Or.inl hy)]
      exact m_looks2 hL (hO.fr (fun i hi => by rcases hi with hi | hi | ⟨c9, j9, g1, g2, hi⟩ <;> rw [up_n (by omega)])) hn (by rw [up_n (by omega)]; exact hw) hc hcn (by rw [up_n (by omega)]; exact ha) haf hpj hps8 (fun j g1 g2 => by rw [up_n (by omega)]; exact hJ j g1 g2) (FBx_fr (FBx_U hF (fun c9 hc9 => ⟨ft_car c9 hc9 6, ft_car c9 hc9 7⟩)) (fun c9 hc9 q9 hq9 => by rw [up_n (by omega)])) hn1 (hUF.trans ft_U) (by rw [up_n (by omega)]; exact hP)
    · exact absurd rfl hc45
  · refine x_aload_n dX3_looks_36 rfl ?_
    refine x_iload_n dX3_looks_37 rfl ?_
    refine k_V1vT hL dX3_looks_38 kG_X3_X3_findsTargets kP_X3_findsTargets rfl (by omega) (by decide) (Nat.le_of_ble_eq_true rfl) (d_finds hL hn hw hPI hf80 hc) ?_
    refine x_aload_n dX3_looks_41 rfl ?_
    refine k_cget 1 1 rfl hL dX3_looks_42 (by decide) q312 (by omega) ?_
    refine x_top hy ?_
    refine x_if_eq (tgt := 56) dX3_looks_45 (by decide) (fun hc45 => ?_) (fun hc45 => ?_)
    · exact absurd hc45 (by decide)
    · refine x_aload_n dX3_looks_48 rfl ?_
      refine x_aload_n dX3_looks_49 rfl ?_
      refine k_V1iT hL dX3_looks_50 kG_X3_X3_hasAhead kP_X3_hasAhead rfl (by omega) (by decide) (Nat.le_of_ble_eq_true rfl) (d_aheadN (n := n) (u := true) hL hc ha haf hf80 hT hS hy) ?_
      refine x_ifB_ne (tgt := 65) dX3_looks_53 (by decide) (fun hc53 => ?_) (fun hc53 => ?_)
      · rw [lk1, if_neg (fun z => z.elim (by rw [hy]; decide) (by rw [decide_eq_true hy]; exact hc53))]
        exact m_looks2 hL hO hn hw hc hcn ha haf hpj hps8 hJ (FBx_U hF (fun c9 hc9 => ⟨ft_car c9 hc9 6, ft_car c9 hc9 7⟩)) hn1 (hUF.trans ft_U) hP
      · refine x_aload_n dX3_looks_56 rfl ?_
        refine x_aload_n dX3_looks_57 rfl ?_
        refine x_iload_n dX3_looks_58 rfl ?_
        refine k_V1iT hL dX3_looks_59 kG_X3_X3_newWay kP_X3_newWay rfl (by omega) (by decide) (Nat.le_of_ble_eq_true rfl) (d_newWay hL hO hn hw hc ha haf) ?_
        refine x_top (cn_nw hT hS haf ha) ?_
        refine k_cput 1 1 rfl hL dX3_looks_62 (by decide) q312 rfl (by omega) ?_
        rw [lk1, if_pos (Or.inr (by rw [decide_eq_true hy]; exact Classical.not_not.mp hc53))]
        exact m_looks2 hL (hO.fr (fun i hi => by rcases hi with hi | hi | ⟨c9, j9, g1, g2, hi⟩ <;> rw [up_n (by omega)])) hn (by rw [up_n (by omega)]; exact hw) hc hcn (by rw [up_n (by omega)]; exact ha) haf hpj hps8 (fun j g1 g2 => by rw [up_n (by omega)]; exact hJ j g1 g2) (FBx_fr (FBx_U hF (fun c9 hc9 => ⟨ft_car c9 hc9 6, ft_car c9 hc9 7⟩)) (fun c9 hc9 q9 hq9 => by rw [up_n (by omega)])) hn1 (hUF.trans ft_U) (by rw [up_n (by omega)]; exact hP)
  · refine x_aload_n dX3_looks_36 rfl ?_
    refine x_iload_n dX3_looks_37 rfl ?_
    refine k_V1vT hL dX3_looks_38 kG_X3_X3_findsTargets kP_X3_findsTargets rfl (by omega) (by decide) (Nat.le_of_ble_eq_true rfl) (d_finds hL hn hw hPI hf80 hc) ?_
    refine x_aload_n dX3_looks_41 rfl ?_
    refine k_cget 1 1 rfl hL dX3_looks_42 (by decide) q312 (by omega) ?_
    refine x_top hy ?_
    refine x_if_eq (tgt := 56) dX3_looks_45 (by decide) (fun hc45 => ?_) (fun hc45 => ?_)
    · exact absurd hc45 (by decide)
    · refine x_aload_n dX3_looks_48 rfl ?_
      refine x_aload_n dX3_looks_49 rfl ?_
      refine k_V1iT hL dX3_looks_50 kG_X3_X3_hasAhead kP_X3_hasAhead rfl (by omega) (by decide) (Nat.le_of_ble_eq_true rfl) (d_aheadN (n := n) (u := false) hL hc ha haf hf80 hT hS hy) ?_
      refine x_ifB_ne (tgt := 65) dX3_looks_53 (by decide) (fun hc53 => ?_) (fun hc53 => ?_)
      · rw [lk1, if_neg (fun z => z.elim (by rw [hy]; decide) (by rw [decide_eq_false (by rw [hy]; decide)]; exact hc53))]
        exact m_looks2 hL hO hn hw hc hcn ha haf hpj hps8 hJ (FBx_U hF (fun c9 hc9 => ⟨ft_car c9 hc9 6, ft_car c9 hc9 7⟩)) hn1 (hUF.trans ft_U) hP
      · refine x_aload_n dX3_looks_56 rfl ?_
        refine x_aload_n dX3_looks_57 rfl ?_
        refine x_iload_n dX3_looks_58 rfl ?_
        refine k_V1iT hL dX3_looks_59 kG_X3_X3_newWay kP_X3_newWay rfl (by omega) (by decide) (Nat.le_of_ble_eq_true rfl) (d_newWay hL hO hn hw hc ha haf) ?_
        refine x_top (cn_nw hT hS haf ha) ?_
        refine k_cput 1 1 rfl hL dX3_looks_62 (by decide) q312 rfl (by omega) ?_
        rw [lk1, if_pos (Or.inr (by rw [decide_eq_false (by rw [hy]; decide)]; exact Classical.not_not.mp hc53))]
        exact m_looks2 hL (hO.fr (fun i hi => by rcases hi with hi | hi | ⟨c9, j9, g1, g2, hi⟩ <;> rw [up_n (by omega)])) hn (by rw [up_n (by omega)]; exact hw) hc hcn (by rw [up_n (by omega)]; exact ha) haf hpj hps8 (fun j g1 g2 => by rw [up_n (by omega)]; exact hJ j g1 g2) (FBx_fr (FBx_U hF (fun c9 hc9 => ⟨ft_car c9 hc9 6, ft_car c9 hc9 7⟩)) (fun c9 hc9 q9 hq9 => by rw [up_n (by omega)])) hn1 (hUF.trans ft_U) (by rw [up_n (by omega)]; exact hP)
theorem kG_X3_X3_goOut : GoodIn lw_all (wsV RX3 200 RX3 yX3_goOut (ws_ yX3_goOut cX3_goOut 5 (some .int))) := lw_V q933 q935 qs28 q121 q936
theorem kP_X3_goOut : kPar yX3_goOut 1 := by decide +kernel
set_option maxHeartbeats 2000000 in
theorem d_looks (hL : LT g M β) (hO : PC g M S π β f nC w) {n : Nat} (hn : n ≤ 60) (hw : w 2 = nI n) {c a ps : Nat} (hc : c < 4) (hcn : c < nC) (ha : w (10 + 20 * c + 0) = nI a) (haf : a < f) (hpj : S β 6 = -1 ∨ (S β 7 = nI ps ∧ ps < f)) (hps8 : ps < 80) (hJ : JK w (S β 6) ps n) (hFB : FB U β f w) (hPI : PI w n f) (hwy : w (10 + 20 * c + 1) = 0 ∨ w (10 + 20 * c + 1) = nI 1 ∨ w (10 + 20 * c + 1) = -1) : fc_CX g l yX3_looks cX3_looks 5 (none) 4 [.ref (fc_B g + β), .int (nI c)] (cR M S U β w) (cq_v M S U β f (lkW (S β 6) ps c n a f w)) := by
  refine fc_enter (by decide) (Nat.le_of_ble_eq_true rfl) rfl ?_
  have hf80 := hO.2.2.2.2.2.1.2.2.2.1
  refine x_aload_n dX3_looks_0 rfl ?_
  refine k_cars 1 rfl hL dX3_looks_1 q349 ?_
  refine x_iload_n dX3_looks_4 rfl ?_
  refine k_cald hL dX3_looks_5 (by omega) ?_
  refine x_astore_n dX3_looks_6 (by decide) rfl ?_
  refine x_aload_n dX3_looks_7 rfl ?_
  refine x_iload_n dX3_looks_8 rfl ?_
  refine k_V1iT hL dX3_looks_9 kG_X3_X3_goOut kP_X3_goOut rfl (by omega) (by decide) (Nat.le_of_ble_eq_true rfl) (d_goOut hL hn hw hc) ?_
  have g1 : ∀ q, (∀ p, p < n → q ≠ 820 + 8 * p + 3 ∧ q ≠ 820 + 8 * p + 6) → (goW c n (n + 1) 0 w 0).1 q = w q := fun q hq => goW_fr hq (n + 1) 0 w 0
  have hle := goW_le (c := c) (n := n) (n + 1) 0 w 0
  rw [lkW]
  generalize (goW c n (n + 1) 0 w 0).1 = w1 at g1 ⊢
  generalize (goW c n (n + 1) 0 w 0).2 = n1 at hle ⊢
  have hO1 := hO.fr (fun i hi => g1 i (fun p hp => by rcases hi with hi | hi | ⟨c9, j9, e1, e2, hi⟩ <;> omega))
  have ha1 := (g1 (10 + 20 * c + 0) (fun p hp => by omega)).trans ha
  have hFB1 := FB_fr (w' := w1) hFB (fun c9 hc9 q9 hq9 => g1 _ (fun p hp => by omega))
  refine x_istore_n dX3_looks_12 (by decide) rfl ?_
  refine x_aload_n dX3_looks_13 rfl ?_
  refine x_aload_n dX3_looks_14 rfl ?_
  refine k_cget 0 0 rfl hL dX3_looks_15 (by decide) q309 (by omega) ?_
  refine x_top ha1 ?_
  refine k_V1iC hL (by omega) dX3_looks_18 kG_X3_X5_isFun kP_X5_isFun rfl (by omega) (by decide) (Nat.le_of_ble_eq_true rfl) (d_isFun hL (by omega) (by omega)) ?_
  refine x_istore dX3_looks_21 (by decide) rfl ?_
  refine x_iload dX3_looks_23 rfl ?_
  refine x_ifB_eq (tgt := 36) dX3_looks_25 (by decide) (fun hc25 => ?_) (fun hc25 => ?_)
  · exact m_looks1 hL hO1 hn ((g1 2 (fun p hp => by omega)).trans hw) hc hcn ha1 haf hpj hps8 (fun j e1 e2 => by rw [g1 _ (fun p hp => by omega)]; exact hJ j e1 e2) (FB_x0 hFB1 hc25) (PI_fr hPI (fun p hp => ⟨g1 _ (fun p hp => by omega), g1 _ (fun p hp => by omega)⟩)) (by rw [g1 (10 + 20 * c + 1) (fun p hp => by omega)]; exact hwy) (by omega) (UF.refl) ⟨fun z => ((hFB1 c hc a).mp z).2, fun z => (hFB1 c hc a).mpr ⟨haf, z⟩⟩
  · refine x_aload_n dX3_looks_28 rfl ?_
    refine x_aload_n dX3_looks_29 rfl ?_
    refine k_cget 0 0 rfl hL dX3_looks_30 (by decide) q309 (by omega) ?_
    refine x_top ha1 ?_
    refine k_V1vC hL (by omega) dX3_looks_33 kG_X3_X5_turnsFun kP_X5_turnsFun rfl (by omega) (by decide) (Nat.le_of_ble_eq_true rfl) (d_turnsFun hL (by omega) (by omega)) ?_
    exact m_looks1 hL hO1 hn ((g1 2 (fun p hp => by omega)).trans hw) hc hcn ha1 haf hpj hps8 (fun j e1 e2 => by rw [g1 _ (fun p hp => by omega)]; exact hJ j e1 e2) (FB_x1 hFB1 (by omega) hc25) (PI_fr hPI (fun p hp => ⟨g1 _ (fun p hp => by omega), g1 _ (fun p hp => by omega)⟩)) (by rw [g1 (10 + 20 * c + 1) (fun p hp => by omega)]; exact hwy) (by omega) (UF_tn (by omega)) ⟨fun z => ((hFB1 c hc a).mp z).2, fun z => (hFB1 c hc a).mpr ⟨haf, z⟩⟩
end T99
