set_option maxRecDepth 100000
section T99ZZZN
variable {g : fc_G} {l : Launch} {M M0 M1 : fc_M} {S S0 S1 : tT} {U : tU} {E : tEn} {q : tTk} {v : Nat → Int32}
theorem kG_X0_J8_fill : GoodIn lw_all (va_wsS RX0 333 yJ8_fill (ws_ yJ8_fill cJ8_fill 4 (none))) := lw_S q830 q831 q141 q832
theorem kP_J8_fill : kPar yJ8_fill 2 := by decide +kernel
theorem clr_gw {x y : Int32} (hn : 245 ≤ fc_nx M) (hv : clr S 32 v = S) (h : gw M (fS S x y) M1 S1) : clr S1 32 v = S1 := by
  have hs : ∀ a k, 32 ≤ a → a < 99 → S1 a k = S a k := fun a k h1 h2 => (h.2.2.2 a k (by omega) (fun z => by omega)).trans ((if_neg (fun z => by omega)).trans (if_neg (fun z => by omega)))
  funext a k
  have e := congrFun (congrFun hv a) k
  unfold clr at e ⊢
  by_cases c1 : a = 32 ∧ (k = 2 ∨ k = 3 ∨ k = 4)
  · rw [if_pos c1] at e ⊢; rw [hs a k (by omega) (by omega)]; exact e
  · rw [if_neg c1] at e ⊢
    by_cases c2 : 32 + 3 ≤ a ∧ a < 32 + 63 ∧ k < 7
    · rw [if_pos c2] at e ⊢; rw [hs a k (by omega) (by omega)]; exact e
    · rw [if_neg c2] at e ⊢
      by_cases c3 : 32 + 63 ≤ a ∧ a < 32 + 67 ∧ k < 6
      · rw [if_pos c3] at e ⊢; rw [hs a k (by omega) (by omega)]; exact e
      · rw [if_neg c3]
theorem LT_gw {β : Nat} (h0 : β ≠ 0) (h : LT g M β) (e : gw M S M1 S1) : LT g M1 β := by
  obtain ⟨a, b, ⟨c1, c2, c3⟩, d1, d2⟩ := h
  obtain ⟨e1, -, e3, -⟩ := e
  have ct : ∀ x k, x < fc_nx M → x ≠ 0 → fc_ct M1 x k = fc_ct M x k := fun x k hx h => (e3 x hx).2 k (fun z => h z.1)
  refine ⟨by omega, fun j hj => (e3 _ (by omega)).1.trans (b j hj), ⟨(ct _ _ (by omega) h0).trans c1, (ct _ _ (by omega) h0).trans c2, (ct _ _ (by omega) h0).trans c3⟩, fun p hp => (ct _ _ (by omega) (by omega)).trans (d1 p hp), fun c hc => (ct _ _ (by omega) (by omega)).trans (d2 c hc)⟩
theorem LT_p0 {β j : Nat} {x : Value} (h0 : β ≠ 0) (h : LT g M β) : LT g (fc_put M 0 j x) β := by
  obtain ⟨a, b, ⟨c1, c2, c3⟩, d1, d2⟩ := h
  have ct : ∀ y k, y ≠ 0 → fc_ct (fc_put M 0 j x) y k = fc_ct M y k := fun y k h => ct_pn (fun z => h z.1)
  exact ⟨a, b, ⟨(ct _ _ h0).trans c1, (ct _ _ h0).trans c2, (ct _ _ h0).trans c3⟩, fun p hp => (ct _ _ (by omega)).trans (d1 p hp), fun c hc => (ct _ _ (by omega)).trans (d2 c hc)⟩
theorem PO_p0 {π f nC j : Nat} {x : Value} {w : Nat → Int32} (h0 : π ≠ 0) (h : PO g M S π f nC w) : PO g (fc_put M 0 j x) S π f nC w := by
  obtain ⟨a, ⟨b1, b2, b3⟩, c⟩ := h
  have ct : ∀ y k, y ≠ 0 → fc_ct (fc_put M 0 j x) y k = fc_ct M y k := fun y k h => ct_pn (fun z => h z.1)
  exact ⟨a, ⟨fun j hj => (ct _ _ h0).trans (b1 j hj), (ct _ _ h0).trans b2, fun c hc => (ct _ _ (by omega)).trans (b3 c hc)⟩, c⟩
/-- the row of the tower that begins as a new plan tells -/
def tpV (S : tT) (π : Nat) (v : Nat → Int32) : Nat → Int32 := bgL (fun c => S (π + 5) c) 5 0 (up (up (plR S π v) 2 (nI 0)) 3 (nI 0))
def txT (g : fc_G) (M : fc_M) (S : tT) (U : tU) (v : Nat → Int32) (R : Except tEr (Nat × tXs)) : Outcome → fc_M → Prop := match R with
  | .error e => fun o M2 => o = .returned (some (.int (-1))) ∧ ∃ M' S', M2 = cl M' (tu (fS S' e.1 (nI e.2)) 0 1 (nI 0)) U ∧ (gw M (fS S (nI 0) (-1)) M' S' ∧ fc_nx M' ≤ fc_nx M + 412 ∧ fc_sl M' ≤ fc_sl M + 1568)
  | .ok z => fun o M2 => o = .returned (some (.int (nI z.1))) ∧ ∃ (π : Nat) (M' : fc_M) (S' : tT) (F : Nat), M2 = cl (fc_put M' 0 14 (.ref (fc_B g + π))) (tu (flS (clr S' 32 (tpV S' π v)) 30 80 (nI 1)) 0 1 (nI 0)) (bgU 32 5 0 U) ∧ (gw M (fS S (nI 0) (-1)) M' S' ∧ fc_nx M' ≤ fc_nx M + 412 ∧ fc_sl M' ≤ fc_sl M + 1568) ∧ z.2.1 = nI F ∧ PR g M' S' π F z.2.2.1 z.1 z.2.2.2.1 z.2.2.2.2 ∧ fc_nx M ≤ π ∧ KV F z.2.2.1 z.2.2.2.1 ∧ ZV z.2.2.2.2 ∧ XV z.2
set_option maxHeartbeats 4000000 in
theorem d_textT (hF : LF g M) (hL : LT g M 32) (hW : WD g M) (hT : tpR S E.2.1 E.2.2) (hv : clr S 32 v = S) (hE : E.1 = nI 3) {v0 : Int32} {K Z : Nat → Int32} (hZ : ∀ i, i < 320 → Z i = 0) : fc_CWX g l yX0_text txW 41 [.ref (fc_B g + 0), .int (nI 3)] (cl M S U) (txT g M S U v (pTT E 401 (nxK E.1 E.2.1 E.2.2 0 v0) 0 (nI 0, 0, K, Z))) := by
  refine fc_enterW (by decide) (Nat.le_of_ble_eq_true rfl) rfl ?_
  refine x_aload_n dX0_text_0 rfl ?_
  refine x_ic0 dX0_text_1 ?_
  refine q_puti 0 11 dX0_text_2 (C := RX0) (T := TX0) (N := 30) rfl (by decide) q406 rfl rfl rfl (show 0 < fc_nx M by have := hF.1; omega) (hF.2.2 0 _ rfl) rfl ?_
  refine x_aload_n dX0_text_5 rfl ?_
  refine x_icm1 dX0_text_6 ?_
  refine q_puti 0 12 dX0_text_7 (C := RX0) (T := TX0) (N := 30) rfl (by decide) q407 rfl rfl rfl (show 0 < fc_nx M by have := hF.1; omega) (hF.2.2 0 _ rfl) rfl ?_
  refine x_iload_n dX0_text_10 rfl ?_
  refine x_ic0 dX0_text_11 ?_
  refine x_ic3 dX0_text_12 ?_
  refine k_S3i dX0_text_13 kG_X0_X0_isIn kP_X0_isIn (by omega) (by decide) (Nat.le_of_ble_eq_true rfl) d_isIn ?_
  refine x_ifB_ne (tgt := 28) dX0_text_16 (by decide) (fun hc16 => ?_) (fun hc16 => ?_)
  · refine x_iload_n dX0_text_28 rfl ?_
    refine x_ic3 dX0_text_29 ?_
    refine x_icmp_ge (tgt := 60) dX0_text_30 (by decide) (fun hc30 => ?_) (fun hc30 => ?_)
    · refine x_aload_n dX0_text_60 rfl ?_
      have hT1 : tpR (fS S (nI 0) (-1)) E.2.1 E.2.2 := ⟨hT.1, hT.2.1, hT.2.2⟩
      obtain ⟨o9, M9, h9c, hC9⟩ := d_readsTower (l := l) (U := U) (v0 := v0) (K := K) hF hW hT1 hE hZ
      have hxv := fun z => pTT_XV (E := E) 401 (nxK E.1 E.2.1 E.2.2 0 v0) 0 (nI 0, 0, K, Z) (z := z) ⟨0, rfl, by decide, by decide, Nat.zero_le _, fun _ => rfl, fun c hc => absurd hc (Nat.not_lt_zero c)⟩ (fun i hi => Or.inl (hZ i hi))
      generalize hRR : pTT E 401 (nxK E.1 E.2.1 E.2.2 0 v0) 0 (nI 0, 0, K, Z) = RR9 at h9c hxv ⊢
      cases RR9 with
      | error e =>
        obtain ⟨x, M1, S1, rfl, rfl, h1, h2⟩ := h9c
        have hF1 := LF_gw hF h1.1
        refine fc_callVc (As := []) (pre := [(10, 21, 97, 210), (28, 53, 97, 210)]) (post := [(10, 21, 123, 0), (28, 53, 123, 0), (60, 90, 123, 0), (97, 116, 123, 0), (123, 125, 123, 0)]) (sp := 60) (ep := 90) (hp := 97) (ct := 210) 0 dX0_text_61 kG_X0_X0_readsTower kP_X0_readsTower (Tf := TX0) (N := 30) rfl (show 0 < fc_nx M by have := hF.1; omega) (hF.2.2 0 _ rfl) (by omega) (by decide) (Nat.le_of_ble_eq_true rfl) rfl q507 (fun z hz => by simp only [List.mem_cons, List.not_mem_nil, or_false] at hz; rcases hz with hz | hz <;> subst hz <;> decide) (by decide) (by decide) q508 hC9 h2.1 h2.2.1 ?_
        exact b_tx97 hF1 h2 ⟨rfl, M1, S1, rfl, h1⟩
      | ok z =>
        obtain ⟨π, M1, S1, F, ho9, rfl, h1, hz, hPR, hπ⟩ := h9c
        have hF1 := LF_gw hF h1.1
        have hn245 := hF.1
        refine fc_callV (As := []) 0 dX0_text_61 kG_X0_X0_readsTower kP_X0_readsTower (T := TX0) (N := 30) rfl (show 0 < fc_nx M by have := hF.1; omega) (hF.2.2 0 _ rfl) (by omega) (by decide) (Nat.le_of_ble_eq_true rfl) rfl hC9 ho9 ?_
        refine x_astore_n dX0_text_64 (by decide) rfl ?_
        refine x_aload_n dX0_text_65 rfl ?_
        refine x_aload_n dX0_text_66 rfl ?_
        refine x_putf 0 14 dX0_text_67 (C := RX0) (T := TX0) (N := 30) rfl (by decide) q410 rfl rfl rfl (show 0 < fc_nx M1 by have := hF1.1; omega) (hF1.2.2 0 _ rfl) ?_
        rw [cl_putr (by rw [hF1.2.2 0 _ rfl]; rfl)]
        have hF2 := LF_p0 (j := 14) (v := .ref (fc_B g + π)) rfl hF1
        have hL2 : LT g (fc_put M1 0 14 (.ref (fc_B g + π))) 32 := LT_p0 (by decide) (LT_gw (by decide) hL h1.1)
        have hcl : clr S1 32 v = S1 := clr_gw hn245 hv h1.1
        obtain ⟨hX, hZV⟩ := hxv z rfl
        have hX0 := hX
        obtain ⟨F2, f1, f2, -, -, -, f6⟩ := hX
        have hFF : F2 = F := (nI_eq (by omega) (by have := hPR.2.2.1.2.1.1; omega)).mp (f1.symm.trans hz)
        rw [hFF] at f6
        have hPC : PC g (fc_put M1 0 14 (.ref (fc_B g + π))) S1 π 32 F z.2.2.1 (plR S1 π v) := ⟨hF2, ct_ps, ⟨Or.inr (by omega), Or.inl (by omega), by decide⟩, PO_p0 (by omega) (plR_PO hPR f6 hZV)⟩
        refine x_eqM (show cl (fc_put M1 0 14 (.ref (fc_B g + π))) S1 U = cR (fc_put M1 0 14 (.ref (fc_B g + π))) S1 U 32 (plR S1 π v) from congrArg (fun s => cl (fc_put M1 0 14 (.ref (fc_B g + π))) s U) (hcl.symm.trans plR_clr.symm)) ?_
        refine x_aload_n dX0_text_70 rfl ?_
        refine q_getr 0 17 dX0_text_71 (C := RX0) (T := TX0) (N := 30) rfl (by decide) q415 (show 0 < fc_nx M1 by have := hF1.1; omega) (hF2.2.2 0 _ rfl) rfl (hF2.2.1 17 _ rfl) ?_
        refine k_V0vT hL2 dX0_text_74 kG_X0_X3_begins kP_X3_begins rfl (by omega) (by decide) (Nat.le_of_ble_eq_true rfl) (d_begins hL2 hPC) ?_
        refine x_aload_n dX0_text_77 rfl ?_
        refine q_getr 0 15 dX0_text_78 (C := RX0) (T := TX0) (N := 30) rfl (by decide) q412 (show 0 < fc_nx M1 by have := hF1.1; omega) (hF2.2.2 0 _ rfl) rfl (hF2.2.1 15 _ rfl) ?_
        refine x_ic1 dX0_text_81 ?_
        refine x_S2v (P := fun m => m = cl (fc_put M1 0 14 (.ref (fc_B g + π))) (flS (clr S1 32 (tpV S1 π v)) 30 80 (nI 1)) (bgU 32 5 0 U)) dX0_text_82 kG_X0_J8_fill kP_J8_fill.2 (by omega) (by decide) (Nat.le_of_ble_eq_true rfl) (c_fill (S := clr S1 32 (tpV S1 π v)) (show 30 < fc_nx M1 by have := hF1.1; omega) (hF2.2.2 30 _ rfl) (by decide)) (fun m hm => ?_)
        subst hm
        refine x_aload_n dX0_text_85 rfl ?_
        refine q_geti 2 2 dX0_text_86 (C := RX2) (T := TX2) (N := 9) rfl (by decide) q214 (Nat.lt_of_lt_of_le (Nat.lt_add_of_pos_right (k := 11) (by decide)) hPR.1.1) hPR.1.2.1 rfl (x := nI z.1) (by show (if π = 30 ∧ 2 < 80 then nI 1 else clr S1 32 (tpV S1 π v) π 2) = nI z.1; rw [if_neg (fun y => absurd y.1 (Nat.ne_of_gt (Nat.lt_of_lt_of_le (show 30 < fc_nx M by omega) hπ))), clr_o (Or.inr (Nat.le_trans (show 32 + 67 ≤ fc_nx M by omega) hπ))]; exact hPR.2.2.1.1.2.2) ?_
        refine x_istore_n dX0_text_89 (by decide) rfl ?_
        refine x_aload_n dX0_text_90 rfl ?_
        refine x_ic0 dX0_text_91 ?_
        refine q_puti 0 1 dX0_text_92 (C := RX0) (T := TX0) (N := 30) rfl (by decide) q396 rfl rfl rfl (show 0 < fc_nx M1 by have := hF1.1; omega) (hF2.2.2 0 _ rfl) rfl ?_
        refine x_iload_n dX0_text_95 rfl ?_
        exact x_iret dX0_text_96 rfl rfl ⟨rfl, π, M1, S1, F, rfl, h1, hz, hPR, hπ, f6, hZV, hX0⟩
    · exact absurd hc30 (by decide)
  · exact absurd ⟨by decide, by decide⟩ hc16
end T99ZZZN
