set_option maxRecDepth 100000
section T99H
variable {g : fc_G} {l : Launch} {M : fc_M} {S : tT} {U : tU} {β : Nat} {w : Nat → Int32} {π f nC : Nat} {S0 : tT}
def bs_i (M : fc_M) (S : tT) (U : tU) (β : Nat) (r : Int32) (w : Nat → Int32) : Outcome → fc_M → Prop := fun o M2 => o = .returned (some (.int r)) ∧ ∃ S', M2 = cR M S' U β w ∧ SF S S' β
theorem TX_sf {S' : tT} {τ r nl : Nat} (hL : LT g M β) (hF : LF g M) (hS : SF S S' β) (q : TX g M S τ w r nl) : TX g M S' τ w r nl := by
  refine TX_ext (fun a k h => ?_) q
  have h2 := off_tw hL (fun j _ => tw_not (s := fc_sh M a) (j := j) h)
  refine hS a k (fun e => ?_) (fun e => by omega)
  subst e
  have h3 : fc_sh M 31 = .inr (.int, 10) := hF.2.2 31 _ rfl
  rw [h3] at h
  simp at h
theorem kG_X3_X2_serves : GoodIn lw_all (wsV RX3 147 RX2 yX2_serves (ws_ yX2_serves cX2_serves 4 (some .boolean))) := lw_V q880 q881 q882 q120 q883
theorem kP_X2_serves : kPar yX2_serves 3 := by decide +kernel
theorem kG_X3_X3_costOf : GoodIn lw_all (wsV RX3 151 RX3 yX3_costOf (ws_ yX3_costOf cX3_costOf 6 (some .int))) := lw_V q884 q885 q886 q121 q887
theorem kP_X3_costOf : kPar yX3_costOf 3 := by decide +kernel
set_option maxHeartbeats 2000000 in
theorem m_bestCar {n0 s0 : Nat} (hL : LT g M β) (hO0 : PC g M S0 π β f nC w) {n : Nat} (hn : n ≤ 60) (hw : w 2 = nI n) {p : Nat} (hp : p < n) (hPI : PI w n f) (hCV : ∀ c, c < nC → CV w c f) (hout : ∀ c, c < nC → w (10 + 20 * c + 4) = 0 ∨ w (10 + 20 * c + 4) = nI 1) {rr τ nl : Nat} (hrr : rr < 3) (hrule : w 4 = nI rr) (hR : fc_ct M 6 rr = .ref (fc_B g + τ)) (hT0 : TX g M S0 τ w rr nl) (hV : RV w rr nl) : ∀ (k c : Nat) (best least : Int32) (S : tT) (o5 : Option Value), c ≤ nC → nC < c + k → SF S0 S β → fc_X g l yX3_bestCar cX3_bestCar 6 (some .int) 405 n0 s0 (cR M S U β w) 21 [some (.ref (fc_B g + β)), some (.int (nI p)), some (.int best), some (.int least), some (.int (nI c)), o5] [] (bs_i M S0 U β (bcW w p n rr nl nC k c best least) w) := by
  intro k
  induction k with
  | zero => intro c best least S o5 h1 h2 hSF; omega
  | succ k ih =>
    intro c best least S o5 h1 h2 hSF
    have hO := hO0.sf hSF
    have hf80 := hO.2.2.2.2.2.1.2.2.2.1
    have hn4 := hO.2.2.2.2.2.1.2.2.2.2
    obtain ⟨a0, b0, hfrom, hto, ha0, hb0, -⟩ := hPI p hp
    refine x_iload dX3_bestCar_21 rfl ?_
    refine x_aload_n dX3_bestCar_23 rfl ?_
    refine k_this0 11 rfl hL dX3_bestCar_24 q367 ?_
    refine k_planN hO dX3_bestCar_27 q411 ?_
    refine k_plF 1 (nI nC) hO (Or.inr (Or.inl ⟨rfl, rfl⟩)) dX3_bestCar_30 q212 ?_
    refine x_icmpN_ge (tgt := 131) dX3_bestCar_33 (by decide) (by omega) (by omega) (fun hc33 => ?_) (fun hc33 => ?_)
    · refine x_iload_n dX3_bestCar_131 rfl ?_
      rw [bcW, if_neg (Nat.not_lt.mpr hc33)]
      exact x_iret dX3_bestCar_132 rfl rfl ⟨rfl, S, rfl, hSF⟩
    · refine x_aload_n dX3_bestCar_36 rfl ?_
      refine k_cars 1 rfl hL dX3_bestCar_37 q349 ?_
      refine x_iload dX3_bestCar_40 rfl ?_
      refine k_cald hL dX3_bestCar_42 (by omega) ?_
      refine k_cget 5 4 rfl hL dX3_bestCar_43 (by decide) q324 (by omega) ?_
      refine x_if_ne (tgt := 125) dX3_bestCar_46 (by decide) (fun hc46 => ?_) (fun hc46 => ?_)
      · refine x_iincN (n := 1) dX3_bestCar_125 (by decide) rfl (by decide) rfl ?_
        refine x_goto (tgt := 21) dX3_bestCar_128 (by decide) ?_
        rw [bcW, if_pos hc33, if_neg (fun (z : ¬ w (10 + 20 * c + 4) = nI 1 ∧ w (100 + 80 * c + wN w (820 + 8 * p + 1)) = nI 1 ∧ w (100 + 80 * c + wN w (820 + 8 * p + 2)) = nI 1) => z.1 ((hout c hc33).resolve_left hc46))]
        exact ih (c + 1) _ _ S _ (by omega) (by omega) hSF
      · refine x_aload_n dX3_bestCar_49 rfl ?_
        refine k_this0 11 rfl hL dX3_bestCar_50 q367 ?_
        refine k_planN hO dX3_bestCar_53 q411 ?_
        refine x_iload dX3_bestCar_56 rfl ?_
        refine x_aload_n dX3_bestCar_58 rfl ?_
        refine k_people 0 rfl hL dX3_bestCar_59 q347 ?_
        refine x_iload_n dX3_bestCar_62 rfl ?_
        refine k_pald hL dX3_bestCar_63 (by omega) ?_
        refine k_pget 1 hL dX3_bestCar_64 (by decide) q271 (by omega) ?_
        refine x_top hfrom ?_
        refine x_aload_n dX3_bestCar_67 rfl ?_
        refine k_people 0 rfl hL dX3_bestCar_68 q347 ?_
        refine x_iload_n dX3_bestCar_71 rfl ?_
        refine k_pald hL dX3_bestCar_72 (by omega) ?_
        refine k_pget 2 hL dX3_bestCar_73 (by decide) q274 (by omega) ?_
        refine x_top hto ?_
        refine k_V3iL hO dX3_bestCar_76 kG_X3_X2_serves kP_X2_serves rfl (by omega) (by decide) (Nat.le_of_ble_eq_true rfl) (d_serves hO (by omega) (by omega) (by omega)) ?_
        refine x_ifB_ne (tgt := 85) dX3_bestCar_79 (by decide) (fun hc79 => ?_) (fun hc79 => ?_)
        · refine x_aload_n dX3_bestCar_85 rfl ?_
          refine x_iload_n dX3_bestCar_86 rfl ?_
          refine x_iload dX3_bestCar_87 rfl ?_
          refine x_aload_n dX3_bestCar_89 rfl ?_
          refine k_tget 4 hL dX3_bestCar_90 (by decide) q355 ?_
          refine x_top hrule ?_
          obtain ⟨⟨a, haf, ha⟩, -⟩ := hCV c hc33
          obtain ⟨o2, M2, ⟨ho2, S2, hM2, hS2, h8⟩, hC2⟩ := d_costOf (l := l) (U := U) hL hO hn hw (by omega) (by omega) ha (by omega) hfrom (by omega) hrr hR (TX_sf hL hO.1 hSF hT0) hV
          subst hM2
          refine x_V3i (P := fun r3 M3 => r3 = (tlW w p c n rr nl).getD (nI 0) ∧ M3 = cR M S2 U β w) 3 dX3_bestCar_93 kG_X3_X3_costOf kP_X3_costOf (T := TX3) (N := 12) rfl (show β < fc_nx M by have := hL.1; omega) hL.sh0 (by omega) (by decide) (Nat.le_of_ble_eq_true rfl) ⟨o2, _, ⟨_, ho2, rfl, rfl⟩, hC2⟩ (fun r3 M3 h => ?_)
          obtain ⟨e1, e2⟩ := h
          subst e1
          subst e2
          have hSF2 := hSF.trans hS2
          refine x_istore dX3_bestCar_96 (by decide) rfl ?_
          refine x_aload_n dX3_bestCar_98 rfl ?_
          refine k_tgetf 8 hL dX3_bestCar_99 (by decide) q363 ?_
          refine x_top h8 ?_
          refine x_ifB_ne (tgt := 125) dX3_bestCar_102 (by decide) (fun hc102 => ?_) (fun hc102 => ?_)
          · refine x_iincN (n := 1) dX3_bestCar_125 (by decide) rfl (by decide) rfl ?_
            refine x_goto (tgt := 21) dX3_bestCar_128 (by decide) ?_
            rw [bcW, if_pos hc33, if_pos (show ¬ w (10 + 20 * c + 4) = nI 1 ∧ w (100 + 80 * c + wN w (820 + 8 * p + 1)) = nI 1 ∧ w (100 + 80 * c + wN w (820 + 8 * p + 2)) = nI 1 from ⟨by rw [hc46]; decide, by rw [wN, hfrom, nI_clamp (by omega)]; exact hc79.1, by rw [wN, hto, nI_clamp (by omega)]; exact hc79.2⟩), hc102]
            exact ih (c + 1) _ _ S2 _ (by omega) (by omega) hSF2
          · refine x_iload_n dX3_bestCar_105 rfl ?_
            refine x_icm1 dX3_bestCar_106 ?_
            refine x_icmp_eq (tgt := 119) dX3_bestCar_107 (by decide) (fun hc107 => ?_) (fun hc107 => ?_)
            · refine x_iload dX3_bestCar_119 rfl ?_
              refine x_istore_n dX3_bestCar_121 (by decide) rfl ?_
              refine x_iload dX3_bestCar_122 rfl ?_
              refine x_istore_n dX3_bestCar_124 (by decide) rfl ?_
              refine x_iincN (n := 1) dX3_bestCar_125 (by decide) rfl (by decide) rfl ?_
              refine x_goto (tgt := 21) dX3_bestCar_128 (by decide) ?_
              cases htl : tlW w p c n rr nl with
              | none => exact absurd htl hc102
              | some v =>
                rw [bcW, if_pos hc33, if_pos (show ¬ w (10 + 20 * c + 4) = nI 1 ∧ w (100 + 80 * c + wN w (820 + 8 * p + 1)) = nI 1 ∧ w (100 + 80 * c + wN w (820 + 8 * p + 2)) = nI 1 from ⟨by rw [hc46]; decide, by rw [wN, hfrom, nI_clamp (by omega)]; exact hc79.1, by rw [wN, hto, nI_clamp (by omega)]; exact hc79.2⟩), htl]
                simp only [Option.getD_some]
                rw [if_pos (Or.inl hc107)]
                exact ih (c + 1) _ _ S2 _ (by omega) (by omega) hSF2
            · refine x_iload dX3_bestCar_110 rfl ?_
              refine x_iload_n dX3_bestCar_112 rfl ?_
              refine x_icmp_lt (tgt := 119) dX3_bestCar_113 (by decide) (fun hc113 => ?_) (fun hc113 => ?_)
              · refine x_iload dX3_bestCar_119 rfl ?_
                refine x_istore_n dX3_bestCar_121 (by decide) rfl ?_
                refine x_iload dX3_bestCar_122 rfl ?_
                refine x_istore_n dX3_bestCar_124 (by decide) rfl ?_
                refine x_iincN (n := 1) dX3_bestCar_125 (by decide) rfl (by decide) rfl ?_
                refine x_goto (tgt := 21) dX3_bestCar_128 (by decide) ?_
                cases htl : tlW w p c n rr nl with
                | none => exact absurd htl hc102
                | some v =>
                  rw [bcW, if_pos hc33, if_pos (show ¬ w (10 + 20 * c + 4) = nI 1 ∧ w (100 + 80 * c + wN w (820 + 8 * p + 1)) = nI 1 ∧ w (100 + 80 * c + wN w (820 + 8 * p + 2)) = nI 1 from ⟨by rw [hc46]; decide, by rw [wN, hfrom, nI_clamp (by omega)]; exact hc79.1, by rw [wN, hto, nI_clamp (by omega)]; exact hc79.2⟩), htl]
                  simp only [Option.getD_some]
                  rw [if_pos (Or.inr (by rw [htl] at hc113; exact hc113))]
                  exact ih (c + 1) _ _ S2 _ (by omega) (by omega) hSF2
              · refine x_goto (tgt := 125) dX3_bestCar_116 (by decide) ?_
                refine x_iincN (n := 1) dX3_bestCar_125 (by decide) rfl (by decide) rfl ?_
                refine x_goto (tgt := 21) dX3_bestCar_128 (by decide) ?_
                cases htl : tlW w p c n rr nl with
                | none => exact absurd htl hc102
                | some v =>
                  rw [bcW, if_pos hc33, if_pos (show ¬ w (10 + 20 * c + 4) = nI 1 ∧ w (100 + 80 * c + wN w (820 + 8 * p + 1)) = nI 1 ∧ w (100 + 80 * c + wN w (820 + 8 * p + 2)) = nI 1 from ⟨by rw [hc46]; decide, by rw [wN, hfrom, nI_clamp (by omega)]; exact hc79.1, by rw [wN, hto, nI_clamp (by omega)]; exact hc79.2⟩), htl]
                  simp only
                  rw [if_neg (fun z => z.elim hc107 (fun z => by rw [htl] at hc113; exact hc113 z))]
                  exact ih (c + 1) _ _ S2 _ (by omega) (by omega) hSF2
        · refine x_goto (tgt := 125) dX3_bestCar_82 (by decide) ?_
          refine x_iincN (n := 1) dX3_bestCar_125 (by decide) rfl (by decide) rfl ?_
          refine x_goto (tgt := 21) dX3_bestCar_128 (by decide) ?_
          rw [bcW, if_pos hc33, if_neg (fun (z : ¬ w (10 + 20 * c + 4) = nI 1 ∧ w (100 + 80 * c + wN w (820 + 8 * p + 1)) = nI 1 ∧ w (100 + 80 * c + wN w (820 + 8 * p + 2)) = nI 1) => hc79 ⟨by have z2 := z.2.1; rw [wN, hfrom, nI_clamp (by omega)] at z2; exact z2, by have z2 := z.2.2; rw [wN, hto, nI_clamp (by omega)] at z2; exact z2⟩)]
          exact ih (c + 1) _ _ S _ (by omega) (by omega) hSF
end T99H
