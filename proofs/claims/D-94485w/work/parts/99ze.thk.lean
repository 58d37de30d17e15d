set_option maxRecDepth 100000
/-! ===== in thought: the tower at 99 becomes the one at 32, and goes on to the end ===== -/
section T99ZE
variable {g : fc_G} {l : Launch} {M : fc_M} {S : tT} {U : tU} {π f nC n : Nat} {v w : Nat → Int32}
/-- what stands of the class between two calls, as far as thoughts rest on it -/
def TI (g : fc_G) (M : fc_M) (S : tT) (U : tU) (π f nC n : Nat) (v : Nat → Int32) : Prop := (LT g M 32 ∧ LT g M 99) ∧ PC g M S π 32 f nC v ∧ plA π ∧ GI v n f nC ∧ FB U 32 f v ∧ ∀ c, c < 4 → v (10 + 20 * c + 4) = 0 ∨ v (10 + 20 * c + 4) = nI 1
abbrev RT (g : fc_G) (M : fc_M) (S : tT) (τ : Nat → Nat) (v : Nat → Int32) : Prop := ∀ r, r < 3 → fc_ct M 6 r = .ref (fc_B g + τ r) ∧ TX g M S (τ r) v r (nlW v r)
theorem vt_n {i : Nat} (h : i < 820 + 8 * n ∨ 1300 ≤ i) : vtW S 99 n v i = v i := if_neg (by omega)
theorem vt_Rl (hC : nC ≤ 4) : Rl n nC (vtW S 99 n v) v := ⟨fun i hi => vt_n (by omega), fun c hc k hk => if_neg (by omega), fun p hp k hk => vt_n (by omega), fun p hp => ⟨fun _ => vt_n (by omega), fun _ => vt_n (by omega)⟩⟩
theorem FB_cg {U1 : tU} {β β2 : Nat} {v1 v2 : Nat → Int32} (h : FB U β f v1) (hU : ∀ c, c < 4 → U1 (β2 + 63 + c) 6 = U (β + 63 + c) 6 ∧ U1 (β2 + 63 + c) 7 = U (β + 63 + c) 7) (hw : ∀ i, 420 ≤ i → i < 740 → v2 i = v1 i) (hf : f ≤ 80) : FB U1 β2 f v2 := by
  intro c hc q
  rw [(hU c hc).1, (hU c hc).2]
  constructor
  · intro z
    obtain ⟨z1, z2⟩ := (h c hc q).mp z
    exact ⟨z1, by rw [hw _ (by omega) (by omega)]; exact z2⟩
  · intro z
    exact (h c hc q).mpr ⟨z.1, by rw [← hw _ (by omega) (by omega)]; exact z.2⟩
/-- the plan, for the tower at 99 -/
theorem PC_bec {gv : Value} {S1 : tT} {v1 : Nat → Int32} (h : TI g M S U π f nC n v) (hS : ∀ a k, (a < 31 ∨ (99 ≤ a ∧ a < 32) ∨ 262 ≤ a) → S1 a k = S a k) (hv : ∀ i, plI i → v1 i = v i) : PC g (fc_put M 99 5 gv) S1 π 99 f nC v1 := by
  obtain ⟨-, hO, hp, hG, -⟩ := h
  have h1 : PC g M S π 99 f nC v := ⟨hO.1, hO.2.1, ⟨by rcases hp with e | e <;> omega, hO.2.2.1.2.1, by decide⟩, hO.2.2.2⟩
  exact PC_off (PC_put (h1.fr hv)) (fun a k a1 a2 => hS a k (by rcases hp with e | e <;> omega))
theorem clr_low {a k : Nat} (h : a < 32 ∨ 99 ≤ a) : clr S 32 v a k = S a k := clr_o (by omega)
/-- a text, for the tower at 99 -/
theorem TX_bec {gv : Value} {τ r nl : Nat} {S1 : tT} {v1 : Nat → Int32} (hL1 : LT g M 32) (hL : LT g M 99) (hF : LF g M) (hS : ∀ a k, a ≠ 31 → (a < 32 ∨ 166 ≤ a) → S1 a k = S a k) (hv : ∀ i, 1300 ≤ i → v1 i = v i) (q : TX g M S τ v r nl) : TX g (fc_put M 99 5 gv) S1 τ v1 r nl := by
  refine TX_w hv (TX_put hL.sh0 (TX_ext (fun a k h => ?_) q))
  have h2 := off_tw hL (fun j _ => tw_not (s := fc_sh M a) (j := j) h)
  have h3 := off_tw hL1 (fun j _ => tw_not (s := fc_sh M a) (j := j) h)
  refine hS a k (fun e => ?_) (by omega)
  subst e
  have h4 : fc_sh M 31 = .inr (.int, 10) := hF.2.2 31 _ rfl
  rw [h4] at h
  simp at h
theorem WS_cg {rr nl : Nat} (hb : Bd n f rr nC) (h : Rl n nC v w) (hW : WS w n f rr nl nC) : WS v n f rr nl nC :=
  ⟨WB_fr hb hW.1 (fun i hi => by
    rcases hi with e | e | e | e | e | ⟨p, hp, e | e⟩
    · exact h.g1 (by omega)
    · exact h.g1 (by omega)
    · exact h.g1 (by omega)
    · exact h.g1 (by omega)
    · exact h.g1 (by omega)
    · rw [e]; exact h.p1 hp (by decide)
    · rw [e]; exact h.p1 hp (by decide)), fun c hc => CV_fr (hW.2 c hc) (fun k hk => h.c1 hc (by omega))⟩
/-- what a thought starts from: joker pr, its floor ps -/
theorem KI_bec {gv : Value} {S1 : tT} {U1 : tU} {r ps : Nat} (h : TI g M S U π f nC n v) (hr : r < 3) (hS : ∀ a k, (a < 31 ∨ (99 ≤ a ∧ a < 32) ∨ 262 ≤ a) → S1 a k = S a k) (hU : ∀ c, c < 4 → U1 (99 + 63 + c) 6 = U (32 + 63 + c) 6 ∧ U1 (99 + 63 + c) 7 = U (32 + 63 + c) 7) (hj : S1 99 6 = -1 ∨ (S1 99 7 = nI ps ∧ ps < f)) (hps : ps < 80) (hJ : JK v (S1 99 6) ps n) : KI g (fc_put M 99 5 gv) S1 U1 π 99 f nC n r (nlW v r) ps (up (vtW S 99 n v) 4 (nI r)) := by
  have hn := h.2.2.2.1.1.1
  have hf := h.2.2.2.1.1.2.1
  have hC := h.2.2.2.1.1.2.2
  have hRl : Rl n nC (up (vtW S 99 n v) 4 (nI r)) (up v 4 (nI r)) := (vt_Rl hC).up1 (fun p _ => by omega)
  refine ⟨PC_bec h hS (fun i hi => ?_), WS_cg (h.2.2.2.1.bd hr) hRl (h.2.2.2.1.ws4 hr), FB_cg h.2.2.2.2.1 hU (fun i i1 i2 => ?_) hf, ⟨hj, hps, fun i hi e => ?_⟩, fun c hc => ?_⟩
  · rw [up_n (by rcases hi with e | e | ⟨c9, j9, g1, g2, e⟩ <;> omega), vt_n (by rcases hi with e | e | ⟨c9, j9, g1, g2, e⟩ <;> omega)]
  · rw [up_n (by omega), vt_n (by omega)]
  · rw [up_n (by omega), vt_n (by omega)]
    exact hJ i hi e
  · rw [up_n (by omega), vt_n (by omega)]
    exact h.2.2.2.2.2 c (by omega)
theorem JK_no {ps : Nat} (hn : n ≤ 60) : JK v (-1) ps n := fun i hi e => absurd e (nI_nm (by omega))
/-- to the end by the rule -/
theorem d_toEndR {β rr nl ps τ wi : Nat} (hL : LT g M β) (hb : Bd n f rr nC) (hR : fc_ct M 6 rr = .ref (fc_B g + τ)) (hgv : fc_ct M β 5 = .null) (hwi : wi < 10000) (hK : KI g M S U π β f nC n rr nl ps w) (hT : TX g M S τ w rr nl) : fc_CX g l yX3_toTheEnd cX3_toTheEnd 3 (some .int) 407 [.ref (fc_B g + β), .int (nI wi)] (cR M S U β w) (cq_i M S U β f (teR (edW (secW none (S β 6) ps n f rr nl nC) n wi (wi + 1) 0 w).1 n (edW (secW none (S β 6) ps n f rr nl nC) n wi (wi + 1) 0 w).2) (edW (secW none (S β 6) ps n f rr nl nC) n wi (wi + 1) 0 w).1) :=
  d_toEnd (tr := none) hL hb (fun S9 U9 w9 i hK9 hT9 _ hi => d_bestCar hL hK9.1 hb.1 hK9.2.1.1.2.2.1 hi hK9.2.1.1.2.2.2.2.2 hK9.2.1.2 hK9.2.2.2.2 hb.2.2.1 hK9.2.1.1.2.2.2.1 hR hT9 hK9.2.1.1.2.2.2.2.1 hgv) hwi hK hT
/-- a second by the rule, so many times -/
theorem edW_le {sd : (Nat → Int32) → (Nat → Int32)} {wi : Nat} : ∀ (q j : Nat) (w : Nat → Int32), j ≤ wi → (edW sd n wi q j w).2 ≤ wi
  | 0, _, _, h => h
  | q + 1, j, w, h => by
    simp only [edW]
    split
    · split
      · exact edW_le q (j + 1) _ (by omega)
      · exact h
    · exact h
/-- an answer of a thought: the tower at 99 and what is asked (31) may have changed, no more -/
def th_i (M : fc_M) (S : tT) (U : tU) (r : Int32) : Outcome → fc_M → Prop := fun o M2 => o = .returned (some (.int r)) ∧ ∃ gv S' U', M2 = cl (fc_put M 99 5 gv) S' U' ∧ (∀ a k, a ≠ 31 → (a < 99 ∨ 166 ≤ a) → S' a k = S a k) ∧ ∀ a k, (a < 99 ∨ 166 ≤ a) → U' a k = U a k
theorem put_self : fc_put M 99 5 (fc_ct M 99 5) = M := by
  refine Prod.ext rfl (Prod.ext rfl (funext fun b => funext fun j => ?_))
  show (if b = 99 ∧ j = 5 then M.2.2 99 5 else M.2.2 b j) = M.2.2 b j
  by_cases e : b = 99 ∧ j = 5
  · rw [if_pos e, e.1, e.2]
  · rw [if_neg e]
theorem put_put {v1 v2 : Value} : fc_put (fc_put M 99 5 v1) 99 5 v2 = fc_put M 99 5 v2 := by
  refine Prod.ext rfl (Prod.ext rfl (funext fun b => funext fun j => ?_))
  show (if b = 99 ∧ j = 5 then v2 else if b = 99 ∧ j = 5 then v1 else M.2.2 b j) = (if b = 99 ∧ j = 5 then v2 else M.2.2 b j)
  by_cases e : b = 99 ∧ j = 5
  · rw [if_pos e, if_pos e]
  · rw [if_neg e, if_neg e, if_neg e]
theorem put_5 {v1 : Value} : fc_ct (fc_put M 99 5 v1) 99 5 = v1 := by
  show (if 99 = 99 ∧ 5 = 5 then v1 else M.2.2 99 5) = v1
  rw [if_pos ⟨rfl, rfl⟩]
theorem th_same {r : Int32} : th_i M S U r (.returned (some (.int r))) (cl M S U) := ⟨rfl, fc_ct M 99 5, S, U, by rw [put_self], fun _ _ _ _ => rfl, fun _ _ _ => rfl⟩
end T99ZE
