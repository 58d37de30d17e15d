set_option maxRecDepth 100000
section T99ZF2
variable {g : fc_G} {M : fc_M} {S : tT} {U : tU} {π f nC n : Nat} {v w : Nat → Int32}
theorem cnt_all {q : Nat → Bool} : ∀ (m : Nat), cnt q m = m → ∀ p, p < m → q p = true
  | 0, _, p, hp => absurd hp (by omega)
  | m + 1, h, p, hp => by
    have h1 := cnt_le q m
    simp only [cnt] at h
    have h2 : q m = true := by
      by_cases z : q m = true
      · exact z
      · rw [if_neg z] at h; omega
    rw [if_pos h2] at h
    by_cases e : p = m
    · subst e; exact h2
    · exact cnt_all m (by omega) p (by omega)
theorem all3 (h : cnt (stp w 3) n = n) {p : Nat} (hp : p < n) : w (820 + 8 * p + 3) = nI 3 := by
  have h1 := cnt_all n h p hp
  unfold stp at h1
  exact of_decide_eq_true h1
theorem ovW_Rl {b : Int32} (h : Rl n nC v w) (hall : cnt (stp w 3) n = n) : ∀ (k i : Nat) (x : Int32), ovW v b n k i x = ovW w b n k i x
  | 0, _, _ => rfl
  | k + 1, i, x => by
    simp only [ovW]
    by_cases hi : i < n
    · rw [if_pos hi, if_pos hi, h.p1 hi (show 0 < 5 by decide), (h.2.2.2 i hi).2 (all3 hall hi), ovW_Rl h hall k]
    · rw [if_neg hi, if_neg hi]
theorem mxW_Rl (h : Rl n nC v w) (hall : cnt (stp w 3) n = n) : ∀ (k i : Nat) (x : Int32), mxW v n k i x = mxW w n k i x
  | 0, _, _ => rfl
  | k + 1, i, x => by
    simp only [mxW]
    by_cases hi : i < n
    · rw [if_pos hi, if_pos hi, h.p1 hi (show 0 < 5 by decide), (h.2.2.2 i hi).2 (all3 hall hi), mxW_Rl h hall k]
    · rw [if_neg hi, if_neg hi]
theorem thE_Rl {sd sd' : (Nat → Int32) → (Nat → Int32)} {wh : Nat} {E E' : (Nat → Int32) × Nat} (h : Rl n nC E.1 E'.1) (e2 : E.2 = E'.2) : thE sd n wh E = thE sd' n wh E' := by
  unfold thE
  rw [h.cs1 3]
  by_cases hc : cnt (stp E'.1 3) n = n
  · rw [if_pos hc, if_pos hc, ovW_Rl h hc, mxW_Rl h hc, e2]
  · rw [if_neg hc, if_neg hc]
/-- the run of a thought, by the row alone -/
def thP (v : Nat → Int32) (n f nC r wi : Nat) : (Nat → Int32) × Nat := edW (secW none (-1) 0 n f r (nlW v r) nC) n wi (wi + 1) 0 (up v 4 (nI r))
theorem thX_P (hG : GI v n f nC) {r wi : Nat} (hr : r < 3) : Rl n nC (thX S v n f nC r wi).1 (thP v n f nC r wi).1 ∧ (thX S v n f nC r wi).2 = (thP v n f nC r wi).2 :=
  edW_Rl (hG.bd hr) (by decide) _ _ _ _ (hG.ws4 hr) ((vt_Rl hG.1.2.2).up1 (fun p _ => by omega))
/-- the same row but for one told the same way: rules' lines -/
theorem nlW_Rl (h : Rl n nC v w) {r : Nat} : nlW v r = nlW w r := by
  unfold nlW wN
  rw [h.g1 (by omega)]
theorem thP_Rl (hG : GI w n f nC) (h : Rl n nC v w) {r wi : Nat} (hr : r < 3) : Rl n nC (thP v n f nC r wi).1 (thP w n f nC r wi).1 ∧ (thP v n f nC r wi).2 = (thP w n f nC r wi).2 := by
  unfold thP
  rw [nlW_Rl h]
  exact edW_Rl (hG.bd hr) (by decide) _ _ _ _ (hG.ws4 hr) (h.up1 (fun p _ => by omega))
end T99ZF2
