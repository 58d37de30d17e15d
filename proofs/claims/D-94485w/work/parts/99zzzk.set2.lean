set_option maxRecDepth 100000
/-! ===== set: class and reference ===== -/
section P11
variable {v w : Nat → Int32} {n nC f N : Nat}
theorem up_up {i : Nat} {x y : Int32} : up (up w i x) i y = up w i y := by
  funext k
  by_cases e : k = i
  · subst e; rw [up_s, up_s]
  · rw [up_n e, up_n e, up_n e]
def oO (v : Nat → Int32) : Prop := ∀ c, c < 4 → v (10 + 20 * c + 4) = 0 ∨ v (10 + 20 * c + 4) = nI 1
theorem oO_up {i : Nat} {x : Int32} (h : oO v) (hi : (∀ c, c < 4 → i ≠ 10 + 20 * c + 4) ∨ x = 0 ∨ x = nI 1) : oO (up v i x) := fun c hc => by
  by_cases e : 10 + 20 * c + 4 = i
  · subst e
    rw [up_s]
    rcases hi with hi | hi
    · exact absurd rfl (hi c hc)
    · exact hi
  · rw [up_n e]; exact h c hc
theorem po_Rl {c : Nat} (h : JW w n f nC N) (hR : Rl n nC v w) (ho : oO v) (hc : c < nC) : Rl n nC (poW v c n 1) (ouW w c n) := by
  have hC := h.1.1.2.2
  unfold poW ouW
  rw [if_neg (by decide)]
  by_cases e : v (10 + 20 * c + 4) = 0
  · rw [if_pos e, tk_eq (by omega)]
    unfold poE
    rw [up_comm (w := up (toL c n (n + 1) 0 v) (10 + 20 * c + 2) (nI 0)) (show 10 + 20 * c + 3 ≠ 10 + 20 * c + 1 by omega), up_comm (w := toL c n (n + 1) 0 v) (show 10 + 20 * c + 2 ≠ 10 + 20 * c + 1 by omega)]
    exact ((((toL_Rl (n + 1) 0 v w hR).up1 (fun p _ => by omega)).up1 (fun p _ => by omega)).up1 (fun p _ => by omega)).up1 (fun p _ => by omega)
  · rw [if_neg e]
    have e1 : v (10 + 20 * c + 4) = nI 1 := (ho c (by omega)).resolve_left e
    rw [tk_id h.2.2.2.2.1 hc hC ((hR.c1 hc (by decide)).symm.trans e1)]
    exact hR.up1 (fun p _ => by omega)
theorem po_fr {c z j : Nat} (hj : 90 ≤ j ∧ j < 820) (hc : c < 4) : poW v c n z j = v j := by
  unfold poW
  split
  · exact up_n (by omega)
  · split
    · unfold poE
      rw [up_n (by omega), up_n (by omega), up_n (by omega), up_n (by omega), toL_fr (fun p _ => by omega)]
    · exact up_n (by omega)
theorem po_oO {c z : Nat} (hz : z ≤ 1) (ho : oO v) : oO (poW v c n z) := by
  have hz2 : nI z = 0 ∨ nI z = nI 1 := by
    rcases (show z = 0 ∨ z = 1 by omega) with q | q
    · left; rw [q]; rfl
    · right; rw [q]
  unfold poW
  split
  · exact oO_up ho (Or.inr hz2)
  · split
    · unfold poE
      refine oO_up (oO_up (oO_up (oO_up (fun d hd => ?_) (Or.inl (fun d hd => by omega))) (Or.inl (fun d hd => by omega))) (Or.inl (fun d hd => by omega))) (Or.inr hz2)
      rw [toL_fr (fun p _ => by omega)]
      exact ho d hd
    · exact oO_up ho (Or.inr hz2)
/-- set -/
theorem st_law {S : tT} {x i y : Int32} (h : JW w n f nC N) (hR : Rl n nC v w) (ho : oO v) (hS : ∀ j, j < f → S 30 j = v (740 + j)) : (stC v S n f nC x i y).1 = (stQ w n x i y).1 ∧ JW (stQ w n x i y).2 n f nC N ∧ Rl n nC (stC v S n f nC x i y).2.2 (stQ w n x i y).2 ∧ oO (stC v S n f nC x i y).2.2 ∧ (∀ j, j < f → (stC v S n f nC x i y).2.1 30 j = (stC v S n f nC x i y).2.2 (740 + j)) ∧ ∀ a k, a ≠ 30 → (stC v S n f nC x i y).2.1 a k = S a k := by
  have hG := h.1
  obtain ⟨⟨b1, b2, b3⟩, e0, e1, e2, -⟩ := hG
  have no : (nI 0 : Int32) = nI 0 ∧ JW w n f nC N ∧ Rl n nC v w ∧ oO v ∧ (∀ j, j < f → S 30 j = v (740 + j)) ∧ ∀ a k, a ≠ 30 → S a k = S a k := ⟨rfl, h, hR, ho, hS, fun _ _ _ => rfl⟩
  unfold stC stQ
  rw [e0, e1]
  by_cases c0 : x = nI 0
  · rw [if_pos c0, if_pos c0]
    by_cases d : nI 0 ≤ y ∧ y ≤ nI 2
    · rw [if_pos d, if_pos d]
      obtain ⟨r, r1, r2, rfl⟩ := nI_between (by decide) d (by decide)
      exact ⟨rfl, JW_up h (Or.inl rfl) ⟨fun _ => ⟨r, by omega, rfl⟩, fun z => by omega, fun z => by omega⟩, hR.up1 (fun p _ => by omega), oO_up ho (Or.inl (fun c _ => by omega)), fun j hj => (hS j hj).trans (up_n (by omega)).symm, fun _ _ _ => rfl⟩
    · rw [if_neg d, if_neg d]; exact no
  · rw [if_neg c0, if_neg c0]
    by_cases c1 : x = nI 1
    · rw [if_pos c1, if_pos c1]
      by_cases d : nI 0 ≤ i ∧ i ≤ nI nC - nI 1
      · rw [if_pos d, if_pos d]
        obtain ⟨c, hc, rfl⟩ := inC (by omega) d
        rw [nI_clamp (by omega)]
        by_cases d2 : nI 0 ≤ y ∧ y ≤ nI 1
        · rw [if_pos d2, if_pos d2]
          obtain ⟨z, z1, z2, rfl⟩ := nI_between (by decide) d2 (by decide)
          rw [nI_clamp (by omega)]
          have hw : ∀ j, j < f → S 30 j = poW v c n z (740 + j) := fun j hj => (hS j hj).trans (po_fr (j := 740 + j) (by omega) (show c < 4 by omega)).symm
          rcases (show z = 0 ∨ z = 1 by omega) with q | q
          · subst q
            rw [if_neg (by decide)]
            refine ⟨rfl, JW_in h hc, ?_, po_oO (n := n) (by omega) ho, hw, fun _ _ _ => rfl⟩
            unfold poW
            rw [if_pos rfl]
            exact hR.up1 (fun p _ => by omega)
          · subst q
            rw [if_pos rfl]
            exact ⟨rfl, JW_out h hc, po_Rl h hR ho hc, po_oO (n := n) (by omega) ho, hw, fun _ _ _ => rfl⟩
        · rw [if_neg d2, if_neg d2]; exact no
      · rw [if_neg d, if_neg d]; exact no
    · rw [if_neg c1, if_neg c1]
      by_cases c2 : x = nI 2
      · rw [if_pos c2, if_pos c2]
        by_cases d : nI 0 ≤ i ∧ i ≤ nI nC - nI 1
        · rw [if_pos d, if_pos d]
          obtain ⟨c, hc, rfl⟩ := inC (by omega) d
          rw [nI_clamp (by omega)]
          have fin : (y = -1 ∨ ∃ a, a < f ∧ y = nI a) → (nI 1 : Int32) = nI 1 ∧ JW (up w (10 + 20 * c + 5) y) n f nC N ∧ Rl n nC (up v (10 + 20 * c + 5) y) (up w (10 + 20 * c + 5) y) ∧ oO (up v (10 + 20 * c + 5) y) ∧ (∀ j, j < f → S 30 j = up v (10 + 20 * c + 5) y (740 + j)) ∧ ∀ a k, a ≠ 30 → S a k = S a k := fun hy => ⟨rfl, JW_up h (Or.inr (Or.inl (by omega))) ⟨fun z => by omega, fun _ _ => hy, fun z => by omega⟩, hR.up1 (fun p _ => by omega), oO_up ho (Or.inl (fun d _ => by omega)), fun j hj => (hS j hj).trans (up_n (by omega)).symm, fun _ _ _ => rfl⟩
          by_cases d2 : y = -1
          · rw [if_pos d2, if_pos d2]; exact fin (Or.inl d2)
          · rw [if_neg d2, if_neg d2]
            by_cases d3 : nI 0 ≤ y ∧ y ≤ nI f - nI 1
            · rw [if_pos d3, if_pos d3]; exact fin (Or.inr (inC (by omega) d3))
            · rw [if_neg d3, if_neg d3]; exact no
        · rw [if_neg d, if_neg d]; exact no
      · rw [if_neg c2, if_neg c2]
        by_cases c3 : x = nI 3
        · rw [if_pos c3, if_pos c3]
          by_cases d : nI 0 ≤ i ∧ i ≤ nI f - nI 1
          · rw [if_pos d, if_pos d]
            obtain ⟨j, hj, rfl⟩ := inC (by omega) d
            rw [nI_clamp (by omega)]
            by_cases d2 : nI 0 ≤ y ∧ y ≤ nI 99
            · rw [if_pos d2, if_pos d2]
              obtain ⟨z, z1, z2, rfl⟩ := nI_between (by decide) d2 (by decide)
              refine ⟨rfl, JW_up h (Or.inr (Or.inr (by omega))) ⟨fun t => by omega, fun t => by omega, fun _ => ⟨z, z2, rfl⟩⟩, hR.up1 (fun p _ => by omega), oO_up ho (Or.inl (fun d _ => by omega)), fun q hq => ?_, fun a k ha => if_neg (fun t => ha t.1)⟩
              show (if 30 = 30 ∧ q = j then nI z else S 30 q) = up v (740 + j) (nI z) (740 + q)
              by_cases e : q = j
              · subst e; rw [if_pos ⟨rfl, rfl⟩, up_s]
              · rw [if_neg (fun t => e t.2), up_n (by omega)]; exact hS q hq
            · rw [if_neg d2, if_neg d2]; exact no
          · rw [if_neg d, if_neg d]; exact no
        · rw [if_neg c3, if_neg c3]; exact no
end P11
