set_option maxRecDepth 100000
section T99ZZW
variable {g : fc_G} {l : Launch} {M M0 : fc_M} {S S0 : tT} {U : tU} {E : tEn} {q : tTk}
theorem gw_tiA {τ k N : Nat} {sh : fc_Sh} {fv : Nat → Value} (h : gw M0 S0 M S) (hτ : fc_nx M0 ≤ τ) : gw M0 S0 (tiA g M τ k sh N fv) (tz0 S (fc_nx M)) := (h.tr gw.new).put hτ
theorem gw_grd {ty : FieldType} {n k : Nat} (h : gw M0 S0 M S) : ∀ i, gw M0 S0 (fc_grd g M ty n k i) (gdZ S (fc_nx M) i)
  | 0 => h.tr gw.new
  | i + 1 => by
    have ih := gw_grd (ty := ty) (n := n) (k := k) h i
    have e := (grd_nx (g := g) (M := M) (ty := ty) (n := n) (k := k) i).1
    have z := ih.tr (gw.new (M := fc_grd g M ty n k i) (S := gdZ S (fc_nx M) i) (sh := .inr (ty, k)) (N := k) (fv := fun _ => defaultValue ty))
    rw [e] at z
    exact z.put h.1
def pn0 (g : fc_G) (M : fc_M) : fc_M := piM g (fc_new M (.inl 2) 9 (fun k => defaultValue (fcTy 2 k))) (fc_nx M)
def pn1 (M : fc_M) (S : tT) : tT := piS (tz0 S (fc_nx M)) (fc_nx M + 1)
theorem pn_nx : fc_nx (pn0 g M) = fc_nx M + 11 ∧ fc_sl (pn0 g M) = fc_sl M + 353 := ⟨rfl, rfl⟩
theorem pn_gw : gw M S (pn0 g M) (pn1 M S) := by
  have h0 := gw.new (M := M) (S := S) (sh := .inl 2) (N := 9) (fv := fun k => defaultValue (fcTy 2 k))
  have h1 := gw_tiA (g := g) (τ := fc_nx M) (k := 3) (sh := .inr (.int, 4)) (N := 4) (fv := fun _ => .int 0) h0 (Nat.le_refl _)
  have h2 := gw_tiA (g := g) (τ := fc_nx M) (k := 4) (sh := .inr (.int, 4)) (N := 4) (fv := fun _ => .int 0) h1 (Nat.le_refl _)
  have h3 := gw_tiA (g := g) (τ := fc_nx M) (k := 5) (sh := .inr (.int, 4)) (N := 4) (fv := fun _ => .int 0) h2 (Nat.le_refl _)
  have h4 := gw_tiA (g := g) (τ := fc_nx M) (k := 6) (sh := .inr (.int, 4)) (N := 4) (fv := fun _ => .int 0) h3 (Nat.le_refl _)
  have h5 := gw_tiA (g := g) (τ := fc_nx M) (k := 7) (sh := .inr (.int, 4)) (N := 4) (fv := fun _ => .int 0) h4 (Nat.le_refl _)
  exact (gw_grd (g := g) (ty := .boolean) (n := 4) (k := 80) h5 4).put (Nat.le_refl _)
theorem pn_PR {K Z : Nat → Int32} (h1 : 1 ≤ fc_nx M) (hZ : ∀ i, i < 320 → Z i = 0) : PR g (pn0 g M) (pn1 M S) (fc_nx M) 0 0 0 K Z := by
  generalize hM1 : fc_new M (.inl 2) 9 (fun k => defaultValue (fcTy 2 k)) = M1
  have n1 : fc_nx M1 = fc_nx M + 1 := by rw [← hM1]; rfl
  have hsπ : fc_sh M1 (fc_nx M) = .inl 2 := by rw [← hM1]; exact sh_new
  have e : ∀ a, fc_sh (pl5 g M1 (fc_nx M)) a = (if a = fc_nx M1 + 4 then .inr (.int, 4) else if a = fc_nx M1 + 3 then .inr (.int, 4) else if a = fc_nx M1 + 2 then .inr (.int, 4) else if a = fc_nx M1 + 1 then .inr (.int, 4) else if a = fc_nx M1 then .inr (.int, 4) else fc_sh M1 a) := fun _ => rfl
  have n5 : fc_nx (pl5 g M1 (fc_nx M)) = fc_nx M1 + 5 := rfl
  have c : ∀ j, j < 5 → fc_ct (pl5 g M1 (fc_nx M)) (fc_nx M) (3 + j) = .ref (fc_B g + (fc_nx M + 1 + j)) := fun j hj => by
    have e2 : ∀ k, fc_ct (pl5 g M1 (fc_nx M)) (fc_nx M) k = (if fc_nx M = fc_nx M ∧ k = 7 then .ref (fc_B g + (fc_nx M1 + 4)) else if fc_nx M = fc_nx M1 + 4 then .int 0 else if fc_nx M = fc_nx M ∧ k = 6 then .ref (fc_B g + (fc_nx M1 + 3)) else if fc_nx M = fc_nx M1 + 3 then .int 0 else if fc_nx M = fc_nx M ∧ k = 5 then .ref (fc_B g + (fc_nx M1 + 2)) else if fc_nx M = fc_nx M1 + 2 then .int 0 else if fc_nx M = fc_nx M ∧ k = 4 then .ref (fc_B g + (fc_nx M1 + 1)) else if fc_nx M = fc_nx M1 + 1 then .int 0 else if fc_nx M = fc_nx M ∧ k = 3 then .ref (fc_B g + fc_nx M1) else if fc_nx M = fc_nx M1 then .int 0 else fc_ct M1 (fc_nx M) k) := fun _ => rfl
    rw [e2, n1]
    rcases (show j = 0 ∨ j = 1 ∨ j = 2 ∨ j = 3 ∨ j = 4 by omega) with r | r | r | r | r <;> subst r
    · rw [if_neg (by omega), if_neg (by omega), if_neg (by omega), if_neg (by omega), if_neg (by omega), if_neg (by omega), if_neg (by omega), if_neg (by omega), if_pos ⟨rfl, rfl⟩]
    · rw [if_neg (by omega), if_neg (by omega), if_neg (by omega), if_neg (by omega), if_neg (by omega), if_neg (by omega), if_pos ⟨rfl, rfl⟩]
    · rw [if_neg (by omega), if_neg (by omega), if_neg (by omega), if_neg (by omega), if_pos ⟨rfl, rfl⟩]
    · rw [if_neg (by omega), if_neg (by omega), if_pos ⟨rfl, rfl⟩]
    · rw [if_pos ⟨rfl, rfl⟩]
  have hpn : pn0 g M = fc_put (fc_grd g (pl5 g M1 (fc_nx M)) .boolean 4 80 4) (fc_nx M) 8 (.ref (fc_B g + (fc_nx M1 + 5))) := by rw [← hM1]; rfl
  have hlt : ∀ a, a ≤ fc_nx M + 5 → a < fc_nx (pl5 g M1 (fc_nx M)) := fun a ha => by rw [n5, n1]; omega
  rw [hpn]
  refine ⟨⟨by show fc_nx M + 11 ≤ fc_nx (pl5 g M1 (fc_nx M)) + 1 + 1 + 1 + 1 + 1; rw [n5, n1]; omega, (grd_old (hlt _ (by omega)) 4).1.trans ?_, fun j hj => (grd_old (hlt _ (by omega)) 4).1.trans ?_, ?_, fun c hc => ?_⟩, ⟨fun j hj => (ct_pn (fun z => by omega)).trans (((grd_old (hlt _ (by omega)) 4).2 _).trans (c j hj)), by rw [show fc_nx M + 6 = fc_nx M1 + 5 by omega]; exact ct_ps, fun c hc => (ct_pn (fun z => by omega)).trans ?_⟩, ⟨⟨?_, ?_, ?_⟩, ⟨by decide, by decide, by decide⟩, h1⟩, fun c hc => absurd hc (by omega), fun c hc f hf => ?_⟩
  · rw [e, if_neg (by omega), if_neg (by omega), if_neg (by omega), if_neg (by omega), if_neg (by omega)]; exact hsπ
  · rw [e]
    rcases (show j = 0 ∨ j = 1 ∨ j = 2 ∨ j = 3 ∨ j = 4 by omega) with r | r | r | r | r <;> subst r
    · rw [if_neg (by omega), if_neg (by omega), if_neg (by omega), if_neg (by omega), if_pos (by omega)]
    · rw [if_neg (by omega), if_neg (by omega), if_neg (by omega), if_pos (by omega)]
    · rw [if_neg (by omega), if_neg (by omega), if_pos (by omega)]
    · rw [if_neg (by omega), if_pos (by omega)]
    · rw [if_pos (by omega)]
  · have z := (grd_0 (g := g) (M := pl5 g M1 (fc_nx M)) (ty := .boolean) (n := 4) (k := 80) 4).1
    rw [n5, show fc_nx M1 + 5 = fc_nx M + 6 by omega] at z
    exact z
  · have z := grd_in (g := g) (M := pl5 g M1 (fc_nx M)) (ty := .boolean) (n := 4) (k := 80) (c := c) 4 hc
    rw [n5, show fc_nx M1 + 5 + 1 + c = fc_nx M + 7 + c by omega] at z
    exact z
  · have z := (grd_0 (g := g) (M := pl5 g M1 (fc_nx M)) (ty := .boolean) (n := 4) (k := 80) 4).2
    rw [n5, show fc_nx M1 + 5 = fc_nx M + 6 by omega] at z
    rw [z, gdF, if_pos hc, show fc_B g + (fc_nx M + 6) + 1 + c = fc_B g + (fc_nx M + 7 + c) by omega]
  · show gdZ _ (fc_nx M + 1 + 5) 4 (fc_nx M) 0 = _
    rw [gdZ_o 4 (by omega)]
    show (if fc_nx M = fc_nx M + 1 + 4 then _ else if fc_nx M = fc_nx M + 1 + 3 then _ else if fc_nx M = fc_nx M + 1 + 2 then _ else if fc_nx M = fc_nx M + 1 + 1 then _ else if fc_nx M = fc_nx M + 1 then _ else if fc_nx M = fc_nx M then (0 : Int32) else _) = _
    rw [if_neg (by omega), if_neg (by omega), if_neg (by omega), if_neg (by omega), if_neg (by omega), if_pos rfl]; rfl
  · show gdZ _ (fc_nx M + 1 + 5) 4 (fc_nx M) 1 = _
    rw [gdZ_o 4 (by omega)]
    show (if fc_nx M = fc_nx M + 1 + 4 then _ else if fc_nx M = fc_nx M + 1 + 3 then _ else if fc_nx M = fc_nx M + 1 + 2 then _ else if fc_nx M = fc_nx M + 1 + 1 then _ else if fc_nx M = fc_nx M + 1 then _ else if fc_nx M = fc_nx M then (0 : Int32) else _) = _
    rw [if_neg (by omega), if_neg (by omega), if_neg (by omega), if_neg (by omega), if_neg (by omega), if_pos rfl]; rfl
  · show gdZ _ (fc_nx M + 1 + 5) 4 (fc_nx M) 2 = _
    rw [gdZ_o 4 (by omega)]
    show (if fc_nx M = fc_nx M + 1 + 4 then _ else if fc_nx M = fc_nx M + 1 + 3 then _ else if fc_nx M = fc_nx M + 1 + 2 then _ else if fc_nx M = fc_nx M + 1 + 1 then _ else if fc_nx M = fc_nx M + 1 then _ else if fc_nx M = fc_nx M then (0 : Int32) else _) = _
    rw [if_neg (by omega), if_neg (by omega), if_neg (by omega), if_neg (by omega), if_neg (by omega), if_pos rfl]; rfl
  · show gdZ _ (fc_nx M + 1 + 5) 4 (fc_nx M + 7 + c) f = _
    rw [gdZ_z 4 (by omega) (by omega), hZ _ (by omega)]
set_option maxHeartbeats 1000000 in
theorem d_readsTower (hF : LF g M) (hW : WD g M) (hT : tpR S E.2.1 E.2.2) (hE : E.1 = nI 3) {v0 : Int32} {K Z : Nat → Int32} (hZ : ∀ i, i < 320 → Z i = 0) : fc_CX g l yX0_readsTower cX0_readsTower 4 (Option.some (Jvm.ClassFile.FieldType.object "FourCars$Plan")) 12 [.ref (fc_B g + 0)] (cl M S U) (rtP g M S U (pTT E 401 (nxK E.1 E.2.1 E.2.2 0 v0) 0 (nI 0, 0, K, Z))) := by
  refine fc_enter (by decide) (Nat.le_of_ble_eq_true rfl) rfl ?_
  have hg0 := pn_gw (g := g) (M := M) (S := S)
  have hF1 := LF_gw hF hg0
  have hW1 := WD_gw hF hW hg0
  have h0 := hF.1
  refine x_newC 2 dX0_readsTower_0 (C := RX2) (T := TX2) (N := 9) rfl q202 q203 q120 kd2a kd2b ?_
  refine x_dup dX0_readsTower_3 rfl ?_
  refine x_I0N (M2 := cl (pn0 g M) (pn1 M S) U) dX0_readsTower_4 q206 q120 q204 q205 rfl kP_X2_init (by omega) (by decide) (Nat.le_of_ble_eq_true rfl) (d_iPlan (Nat.lt_succ_self _) sh_new) ?_
  refine x_astore_n dX0_readsTower_7 (by decide) rfl ?_
  refine x_aload_n dX0_readsTower_8 rfl ?_
  refine x_ic0 dX0_readsTower_9 ?_
  refine q_puti 0 7 dX0_readsTower_10 (C := RX0) (T := TX0) (N := 30) rfl (by decide) q402 rfl rfl rfl (show 0 < fc_nx (pn0 g M) by rw [pn_nx.1]; omega) (hF1.2.2 0 _ rfl) rfl ?_
  refine x_aload_n dX0_readsTower_13 rfl ?_
  have hs1 : ∀ a k, a ≤ 1 → ¬ (a = 0 ∧ 7 ≤ k ∧ k ≤ 10) → pn1 M S a k = S a k := fun a k ha hk => hg0.2.2.2 a k (by omega) hk
  have hT1 : tpR (tu (pn1 M S) 0 7 (nI 0)) E.2.1 E.2.2 := ⟨(hs1 0 1 (by decide) (by decide)).trans hT.1, hT.2.1, fun k hk => by rw [show (tu (pn1 M S) 0 7 (nI 0)) 1 k = S 1 k from hs1 1 k (by decide) (by omega)]; exact hT.2.2 k hk⟩
  have hg3 : gw M S (pn0 g M) (tu (pn1 M S) 0 7 (nI 0)) := ⟨hg0.1, hg0.2.1, hg0.2.2.1, fun a k ha hk => (if_neg (fun z => hk (by omega))).trans (hg0.2.2.2 a k ha hk)⟩
  refine k_first (E := E) (v0 := v0) hF1 hW1 hT1 rfl dX0_readsTower_14 kG_X0_X0_readNext (by omega) (Nat.le_of_ble_eq_true rfl) (fun M1 S1 hg hn1 hs9 hk h10 => ?_)
  have hF2 := LF_gw hF1 hg
  have hW2 := WD_gw hF1 hW1 hg
  have hRR : PR g (pn0 g M) (tu (pn1 M S) 0 7 (nI 0)) (fc_nx M) 0 0 0 K Z := by
    obtain ⟨z1, z2, ⟨⟨z3, z4, z5⟩, z6, z7⟩, z8, z9⟩ := pn_PR (g := g) (M := M) (S := S) (K := K) (by omega) hZ
    exact ⟨z1, z2, ⟨⟨(if_neg (fun y => by omega)).trans z3, (if_neg (fun y => by omega)).trans z4, (if_neg (fun y => by omega)).trans z5⟩, z6, z7⟩, fun c hc => absurd hc (by omega), fun c hc f hf => (if_neg (fun y => by omega)).trans (z9 c hc f hf)⟩
  exact m_readsTower (Nat.le_refl _) hE (by omega) hF hW 401 M1 S1 _ 0 0 0 K Z hF2 hW2 hk ⟨hg3.tr hg, by rw [hn1, pn_nx.1]; omega, by rw [hs9, pn_nx.2]; omega⟩ (PR_gw hRR hg) (by have := hT.2.1; omega)
end T99ZZW
