set_option maxRecDepth 100000
section T99G
variable {g : fc_G} {l : Launch} {M : fc_M} {S : tT} {U : tU} {β : Nat} {w : Nat → Int32} {π f nC : Nat}
def co_i (M : fc_M) (S : tT) (U : tU) (β : Nat) (w : Nat → Int32) (t : Option Int32) : Outcome → fc_M → Prop := fun o M2 => o = .returned (some (.int (t.getD (nI 0)))) ∧ ∃ S', M2 = cR M S' U β w ∧ SF S S' β ∧ S' β 8 = bI (t = none)
theorem as_sf {p c n : Nat} : SF S (tu (tu (tu (tu (tu (tu (tu (tu (tu (tu S 31 0 (fcW w p c n 1)) 31 1 (fcW w p c n 2)) 31 2 (fcW w p c n 3)) 31 3 (fcW w p c n 4)) 31 4 (fcW w p c n 5)) 31 5 (fcW w p c n 6)) 31 6 (fcW w p c n 7)) 31 7 (fcW w p c n 8)) 31 8 (fcW w p c n 9)) 31 9 (fcW w p c n 10)) β := fun a k e1 e2 => ((((((((((if_neg (fun (z : a = 31 ∧ k = 9) => e1 z.1)).trans (if_neg (fun (z : a = 31 ∧ k = 8) => e1 z.1))).trans (if_neg (fun (z : a = 31 ∧ k = 7) => e1 z.1))).trans (if_neg (fun (z : a = 31 ∧ k = 6) => e1 z.1))).trans (if_neg (fun (z : a = 31 ∧ k = 5) => e1 z.1))).trans (if_neg (fun (z : a = 31 ∧ k = 4) => e1 z.1))).trans (if_neg (fun (z : a = 31 ∧ k = 3) => e1 z.1))).trans (if_neg (fun (z : a = 31 ∧ k = 2) => e1 z.1))).trans (if_neg (fun (z : a = 31 ∧ k = 1) => e1 z.1))).trans (if_neg (fun (z : a = 31 ∧ k = 0) => e1 z.1)))
theorem as_fx {p c n : Nat} (hβ : 31 < β) : ∀ s, 0 < s → s < 11 → hasF (clr (tu (tu (tu (tu (tu (tu (tu (tu (tu (tu S 31 0 (fcW w p c n 1)) 31 1 (fcW w p c n 2)) 31 2 (fcW w p c n 3)) 31 3 (fcW w p c n 4)) 31 4 (fcW w p c n 5)) 31 5 (fcW w p c n 6)) 31 6 (fcW w p c n 7)) 31 7 (fcW w p c n 8)) 31 8 (fcW w p c n 9)) 31 9 (fcW w p c n 10)) β w) s = fcW w p c n s := by
  intro s h0 h1
  unfold hasF
  rw [clr_o (Or.inl hβ)]
  have h : s = 1 ∨ s = 2 ∨ s = 3 ∨ s = 4 ∨ s = 5 ∨ s = 6 ∨ s = 7 ∨ s = 8 ∨ s = 9 ∨ s = 10 := by omega
  rcases h with e | e | e | e | e | e | e | e | e | e <;> subst e <;> rfl
theorem nI_nm {j : Nat} (h : j < 1000) : ¬ nI j = -1 := by
  intro e
  have h1 := congrArg Int32.toInt e
  rw [nI_toInt (by omega)] at h1
  have h2 : (-1 : Int32).toInt = -1 := rfl
  omega
theorem SF_8 {S' : tT} {x : Int32} (h : SF S S' β) : SF S (tu S' β 8 x) β := fun a k e1 e2 => (if_neg (fun (z : a = β ∧ k = 8) => e2 z)).trans (h a k e1 e2)
theorem kG_X3_X3_asks : GoodIn lw_all (wsV RX3 113 RX3 yX3_asks (ws_ yX3_asks cX3_asks 6 (none))) := lw_V q888 q890 qs25 q121 q891
theorem kP_X3_asks : kPar yX3_asks 2 := by decide +kernel
theorem kG_X3_X1_first : GoodIn lw_all (wsV RX3 121 RX1 yX1_first (ws_ yX1_first cX1_first 3 (some .int))) := lw_V q903 q904 q905 q119 q906
theorem kP_X1_first : kPar yX1_first 1 := by decide +kernel
set_option maxHeartbeats 2000000 in
theorem d_costOf (hL : LT g M β) (hO : PC g M S π β f nC w) {n : Nat} (hn : n ≤ 60) (hw : w 2 = nI n) {p c : Nat} (hp : p < 60) (hc : c < 4) {a b : Nat} (ha : w (10 + 20 * c + 0) = nI a) (ha2 : a < 80) (hb : w (820 + 8 * p + 1) = nI b) (hb2 : b < 80) {rr τ nl : Nat} (hrr : rr < 3) (hR : fc_ct M 6 rr = .ref (fc_B g + τ)) (hT : TX g M S τ w rr nl) (hV : RV w rr nl) : fc_CX g l yX3_costOf cX3_costOf 6 (some .int) 404 [.ref (fc_B g + β), .int (nI p), .int (nI c), .int (nI rr)] (cR M S U β w) (co_i M S U β w (tlW w p c n rr nl)) := by
  refine fc_enter (by decide) (Nat.le_of_ble_eq_true rfl) rfl ?_
  refine x_aload_n dX3_costOf_0 rfl ?_
  refine x_iload_n dX3_costOf_1 rfl ?_
  refine x_iload_n dX3_costOf_2 rfl ?_
  refine k_V2vT hL dX3_costOf_3 kG_X3_X3_asks kP_X3_asks rfl (by omega) (by decide) (Nat.le_of_ble_eq_true rfl) (d_asks hL hO hn hw hp hc ha ha2 hb hb2) ?_
  have hSF := as_sf (S := S) (β := β) (w := w) (p := p) (c := c) (n := n)
  have hfx := as_fx (S := S) (β := β) (w := w) (p := p) (c := c) (n := n) hO.2.2.1.2.2
  generalize (tu (tu (tu (tu (tu (tu (tu (tu (tu (tu S 31 0 (fcW w p c n 1)) 31 1 (fcW w p c n 2)) 31 2 (fcW w p c n 3)) 31 3 (fcW w p c n 4)) 31 4 (fcW w p c n 5)) 31 5 (fcW w p c n 6)) 31 6 (fcW w p c n 7)) 31 7 (fcW w p c n 8)) 31 8 (fcW w p c n 9)) 31 9 (fcW w p c n 10)) = S1 at hSF hfx ⊢
  have hO := hO.sf hSF
  have hT1 := TX_tw (w2 := w) hL hO.1 hSF hT
  refine x_aload_n dX3_costOf_6 rfl ?_
  refine k_this0 11 rfl hL dX3_costOf_7 q367 ?_
  refine k_FrefN 13 hO.1 rfl (by decide) rfl dX3_costOf_10 q409 ?_
  refine x_iload_n dX3_costOf_13 rfl ?_
  refine x_aald dX3_costOf_14 (show 6 < fc_nx M by have := hO.1.1; omega) (hO.1.2.2 6 _ rfl) rfl (by decide) hrr ((cl_r (by rw [hO.1.2.2 6 _ rfl]; rfl)).trans hR) ?_
  refine x_astore dX3_costOf_15 (by decide) rfl ?_
  refine x_aload dX3_costOf_17 rfl ?_
  refine x_aload_n dX3_costOf_19 rfl ?_
  refine k_this0 11 rfl hL dX3_costOf_20 q367 ?_
  refine k_FrefN 16 hO.1 rfl (by decide) rfl dX3_costOf_23 q414 ?_
  refine x_V1i (P := fun r3 M3 => r3 = fiW w rr (fcW w p c n) nl (nl + 1) 0 ∧ M3 = cR M S1 U β w) 1 dX3_costOf_26 kG_X3_X1_first kP_X1_first (T := TX1) (N := 4) rfl (show τ < fc_nx M by have := hT.1.1; omega) hT.1.2.1 (by omega) (by decide) (Nat.le_of_ble_eq_true rfl) (fc_re_i (d_first hO.1 hT1 hV hfx)) (fun r3 M3 h => ?_)
  obtain ⟨e1, e2⟩ := h
  subst e1
  subst e2
  rcases lnW_fi (w := w) (r := rr) (fx := fcW w p c n) (nl := nl) (nl + 1) 0 (Nat.zero_le nl) (by omega) with ⟨g1, g2⟩ | ⟨j, hj, g1, g2⟩
  · refine x_top g1 ?_
    refine x_istore dX3_costOf_29 (by decide) rfl ?_
    refine x_aload_n dX3_costOf_31 rfl ?_
    refine x_iload dX3_costOf_32 rfl ?_
    refine x_icm1 dX3_costOf_34 ?_
    refine x_icmp_eq (tgt := 53) dX3_costOf_35 (by decide) (fun hc35 => ?_) (fun hc35 => ?_)
    · refine x_ic0 dX3_costOf_53 ?_
      refine k_tputf 8 hL dX3_costOf_54 (by decide) q363 rfl rfl rfl ?_
      refine x_iload dX3_costOf_57 rfl ?_
      refine x_icm1 dX3_costOf_59 ?_
      refine x_icmp_eq (tgt := 70) dX3_costOf_60 (by decide) (fun hc60 => ?_) (fun hc60 => ?_)
      · refine x_ic0 dX3_costOf_70 ?_
        refine x_goto (tgt := 92) dX3_costOf_71 (by decide) ?_
        have e9 : tlW w p c n rr nl = some (nI 0) := g2
        rw [e9]
        exact x_iret dX3_costOf_92 rfl rfl ⟨rfl, _, rfl, SF_8 hSF, (if_pos ⟨rfl, rfl⟩ : tu S1 β 8 (nI 0) β 8 = nI 0).trans (bI_f (by decide)).symm⟩
      · exact absurd rfl hc60
    · exact absurd rfl hc35
  · have hnl := hT.2.2.1.2
    refine x_top g1 ?_
    refine x_istore dX3_costOf_29 (by decide) rfl ?_
    refine x_aload_n dX3_costOf_31 rfl ?_
    refine x_iload dX3_costOf_32 rfl ?_
    refine x_icm1 dX3_costOf_34 ?_
    refine x_icmp_eq (tgt := 53) dX3_costOf_35 (by decide) (fun hc35 => ?_) (fun hc35 => ?_)
    · exact absurd hc35 (nI_nm (by omega))
    · refine x_aload dX3_costOf_38 rfl ?_
      refine q_getr 1 0 dX3_costOf_40 (C := RX1) (T := TX1) (N := 4) rfl (by decide) q182 (show τ < fc_nx M by have := hT.1.1; omega) hT.1.2.1 rfl hT.2.1.1 ?_
      refine x_iload dX3_costOf_43 rfl ?_
      refine q_iald dX3_costOf_45 (show τ + 1 < fc_nx M by have := hT.1.1; omega) hT.1.2.2.1 (by decide) (show j < 16 by omega) ?_
      refine x_top (hT1.2.2.2 j hj).1.1 ?_
      refine x_if_eq (tgt := 53) dX3_costOf_46 (by decide) (fun hc46 => ?_) (fun hc46 => ?_)
      · refine x_ic0 dX3_costOf_53 ?_
        refine k_tputf 8 hL dX3_costOf_54 (by decide) q363 rfl rfl rfl ?_
        refine x_iload dX3_costOf_57 rfl ?_
        refine x_icm1 dX3_costOf_59 ?_
        refine x_icmp_eq (tgt := 70) dX3_costOf_60 (by decide) (fun hc60 => ?_) (fun hc60 => ?_)
        · exact absurd hc60 (nI_nm (by omega))
        · refine x_aload_n dX3_costOf_63 rfl ?_
          refine k_tgetf 8 hL dX3_costOf_64 (by decide) q363 ?_
          refine x_top (w := nI 0) (if_pos ⟨rfl, rfl⟩) ?_
          refine x_ifN_eq (tgt := 74) dX3_costOf_67 (by decide) (by decide) (fun _ => ?_) (fun hc67 => absurd hc67 (by decide))
          refine x_aload dX3_costOf_74 rfl ?_
          refine q_getr 1 1 dX3_costOf_76 (C := RX1) (T := TX1) (N := 4) rfl (by decide) q185 (show τ < fc_nx M by have := hT.1.1; omega) hT.1.2.1 rfl hT.2.1.2.1 ?_
          refine x_iload dX3_costOf_79 rfl ?_
          obtain ⟨x, hx, htm⟩ := (TX_tw (w2 := w) hL hO.1 (SF_8 (x := nI 0) hSF) hT).2.2.2 j hj |>.2.2 (by rw [hc46]; decide)
          refine x_aald dX3_costOf_81 (show τ + 2 < fc_nx M by have := hT.1.1; omega) hT.1.2.2.2.1 rfl (by decide) (show j < 16 by omega) ((cl_r (by rw [hT.1.2.2.2.1]; rfl)).trans hx) ?_
          obtain ⟨v, e1, e2⟩ := tm_of (l := l) (U := U) hO.1 402 x _ htm
          refine x_aload_n dX3_costOf_82 rfl ?_
          refine k_this0 11 rfl hL dX3_costOf_83 q367 ?_
          refine k_FrefN 16 hO.1 rfl (by decide) rfl dX3_costOf_86 q414 ?_
          refine x_of dX3_costOf_89 kA_X3_X9 kA_X3_X10 kA_X3_X11 kA_X3_X12 e2 (by omega) (Nat.le_of_ble_eq_true rfl) ?_
          obtain ⟨v1, v2, v3, v4, v5, v6, -, v8⟩ := hV.2.2 j hj
          have hfx2 : ∀ s, 0 < s → s < 11 → hasF (clr (tu S1 β 8 (nI 0)) β w) s = fcW w p c n s := fun s h0 h1 => by rw [← hfx s h0 h1]; unfold hasF; rw [clr_o (Or.inl hO.2.2.1.2.2), clr_o (Or.inl hO.2.2.1.2.2)]; exact if_neg (fun (z : 31 = β ∧ s - 1 = 8) => by have := hO.2.2.1.2.2; omega)
          have e4 := cd_lev (fx := fcW w p c n) v4 (v8 (by rw [hc46]; decide)) (fun st => by rw [← lev_congr hfx2]; exact e1 st)
          have e9 : tlW w p c n rr nl = some v := g2.trans ((if_neg (by rw [hc46]; decide)).trans (by rw [e4]))
          rw [e9]
          exact x_iret dX3_costOf_92 rfl rfl ⟨rfl, _, rfl, SF_8 hSF, (if_pos ⟨rfl, rfl⟩ : tu S1 β 8 (nI 0) β 8 = nI 0).trans (bI_f (by simp)).symm⟩
      · refine x_ic1 dX3_costOf_49 ?_
        refine x_goto (tgt := 54) dX3_costOf_50 (by decide) ?_
        refine k_tputf 8 hL dX3_costOf_54 (by decide) q363 rfl rfl rfl ?_
        refine x_iload dX3_costOf_57 rfl ?_
        refine x_icm1 dX3_costOf_59 ?_
        refine x_icmp_eq (tgt := 70) dX3_costOf_60 (by decide) (fun hc60 => ?_) (fun hc60 => ?_)
        · exact absurd hc60 (nI_nm (by omega))
        · refine x_aload_n dX3_costOf_63 rfl ?_
          refine k_tgetf 8 hL dX3_costOf_64 (by decide) q363 ?_
          refine x_top (w := nI 1) (if_pos ⟨rfl, rfl⟩) ?_
          refine x_ifN_eq (tgt := 74) dX3_costOf_67 (by decide) (by decide) (fun hc67 => absurd hc67 (by decide)) (fun _ => ?_)
          refine x_ic0 dX3_costOf_70 ?_
          refine x_goto (tgt := 92) dX3_costOf_71 (by decide) ?_
          have e9 : tlW w p c n rr nl = none := g2.trans (if_pos ((hT1.2.2.2 j hj).1.2.resolve_left (fun q => hc46 (by rw [q]; decide))))
          rw [e9]
          exact x_iret dX3_costOf_92 rfl rfl ⟨rfl, _, rfl, SF_8 hSF, (if_pos ⟨rfl, rfl⟩ : tu S1 β 8 (nI 1) β 8 = nI 1).trans (bI_t rfl).symm⟩
end T99G
