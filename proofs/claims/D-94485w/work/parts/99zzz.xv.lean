set_option maxRecDepth 100000
/-! ===== a tower's text: skips are 0 or 1; the row that a plan and a tower tell together ===== -/
section T99ZZZ
variable {g : fc_G} {M : fc_M} {S : tT} {E : tEn}
def ZV (Z : Nat → Int32) : Prop := ∀ i, i < 320 → Z i = 0 ∨ Z i = nI 1
theorem ZV_up {Z : Nat → Int32} {i : Nat} (h : ZV Z) : ZV (up Z i (nI 1)) := fun j hj => by
  by_cases e : j = i
  · subst e; rw [up_s]; exact Or.inr rfl
  · rw [up_n e]; exact h j hj
theorem tlR_ZV {q : tTk} {X : tXs} {x : tTk × tXs} (hX : ZV X.2.2.2) (h : tlR E q X = .ok x) : ZV x.2.2.2.2 := by
  unfold tlR at h
  split at h
  · have z := pFl_ok h
    rw [z.2.2]; exact hX
  · split at h
    · unfold pCr at h
      split at h
      · cases h
      · split at h
        · cases h
        · cases hp : pCL E X.1 X.2.1 6 0 (nxt E q) X.2.2.1 with
          | error e => rw [hp] at h; cases h
          | ok z => rw [hp] at h; cases h; exact hX
    · unfold pSk at h
      split at h
      · cases h
      · cases hp : pNu E (nI 0) (nI X.2.1 - nI 1) (nxt E q) with
        | error e => rw [hp] at h; cases h
        | ok q2 =>
          rw [hp] at h
          simp only at h
          cases hp2 : pNu E (nI 0) (X.1 - nI 1) q2 with
          | error e => rw [hp2] at h; cases h
          | ok q3 => rw [hp2] at h; cases h; exact ZV_up hX
theorem pTL_tlR {q : tTk} {ln : Nat} {X : tXs} {x : tTk × tXs} (h : pTL E q ln X = .ok x) : ∃ x0, tlR E q X = .ok x0 ∧ x.2 = x0.2 := by
  unfold pTL at h
  split at h
  · split at h
    · cases h
    · unfold pTM at h
      cases hR : tlR E q X with
      | error e => rw [show (if q.2.2.1 = nI 30 then pFl E q X else if q.2.2.1 = nI 31 then pCr E q X else pSk E q X) = .error e from hR] at h; cases h
      | ok x0 =>
        rw [show (if q.2.2.1 = nI 30 then pFl E q X else if q.2.2.1 = nI 31 then pCr E q X else pSk E q X) = .ok x0 from hR] at h
        refine ⟨x0, rfl, ?_⟩
        have h9 : (if x0.1.2.2.1 = nI 159 then Except.ok (nxt E x0.1, x0.2) else Except.error (nI 1, x0.1.1)) = (Except.ok x : Except tEr (tTk × tXs)) := h
        split at h9
        · cases h9; rfl
        · cases h9
  · cases h
theorem pTT_XV : ∀ (k : Nat) (q : tTk) (ln : Nat) (X : tXs) {z : Nat × tXs}, XV X → ZV X.2.2.2 → pTT E k q ln X = .ok z → XV z.2 ∧ ZV z.2.2.2.2
  | 0, q, ln, X, z, h1, h2, h => by cases h; exact ⟨h1, h2⟩
  | k + 1, q, ln, X, z, h1, h2, h => by
    by_cases c : q.2.2.1 = 0
    · rw [pTT_0 c] at h; cases h; exact ⟨h1, h2⟩
    · cases hp : pTL E q ln X with
      | error e => rw [pTT_e c hp] at h; cases h
      | ok x =>
        rw [pTT, if_neg c, hp] at h
        obtain ⟨x0, e1, e2⟩ := pTL_tlR hp
        exact pTT_XV k x.1 (ln + 1) x.2 (by rw [e2]; exact tlR_XV h1 e1) (by rw [e2]; exact tlR_ZV h2 e1) h
end T99ZZZ
