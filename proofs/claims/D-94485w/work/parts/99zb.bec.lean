set_option maxRecDepth 100000
/-! ===== a tower that became another: its row in plain words ===== -/
section T99ZB
variable {g : fc_G} {l : Launch} {M : fc_M} {S : tT} {U : tU} {β β2 n : Nat} {w w2 v : Nat → Int32}
/-- the row that a tower's cells tell -/
def rdR (S : tT) (β : Nat) : Nat → Int32 := fun i => if i = 2 ∨ i = 3 ∨ i = 4 then S β i else if 820 ≤ i ∧ i < 1300 then S (β + 3 + (i - 820) / 8) ((i - 820) % 8) else if 10 ≤ i ∧ i < 90 then S (β + 63 + (i - 10) / 20) (cmp ((i - 10) % 20)) else 0
theorem cmp_cmp {k : Nat} : cmp (cmp k) = k := by
  unfold cmp
  by_cases h1 : k = 4
  · subst h1; rfl
  · by_cases h2 : k = 5
    · subst h2; rfl
    · simp [h1, h2]
theorem cmp_lt {k : Nat} (h : k < 6) : cmp k < 6 := by
  unfold cmp
  split
  · omega
  · split <;> omega
/-- a tower's cells tell the row w -/
def telR (S : tT) (β : Nat) (w : Nat → Int32) : Prop := clr S β w = S
theorem clr_rd : clr S β (rdR S β) = S := by
  funext a k
  show (if _ then _ else _) = _
  by_cases h1 : a = β ∧ (k = 2 ∨ k = 3 ∨ k = 4)
  · rw [if_pos h1]
    show (if _ then _ else _) = _
    rw [if_pos h1.2, h1.1]
  · rw [if_neg h1]
    by_cases h2 : β + 3 ≤ a ∧ a < β + 63 ∧ k < 7
    · rw [if_pos h2]
      show (if _ then _ else _) = _
      rw [if_neg (by omega), if_pos (by omega), show (820 + 8 * (a - (β + 3)) + k - 820) / 8 = a - (β + 3) by omega, show (820 + 8 * (a - (β + 3)) + k - 820) % 8 = k by omega, show β + 3 + (a - (β + 3)) = a by omega]
    · rw [if_neg h2]
      by_cases h3 : β + 63 ≤ a ∧ a < β + 67 ∧ k < 6
      · rw [if_pos h3]
        have hk := cmp_lt h3.2.2
        show (if _ then _ else _) = _
        rw [if_neg (by omega), if_neg (by omega), if_pos (by omega), show (10 + 20 * (a - (β + 63)) + cmp k - 10) / 20 = a - (β + 63) by omega, show (10 + 20 * (a - (β + 63)) + cmp k - 10) % 20 = cmp k by omega, show β + 63 + (a - (β + 63)) = a by omega, cmp_cmp]
      · rw [if_neg h3]
/-- the places of a tower in a row -/
def twP (i : Nat) : Prop := (i = 2 ∨ i = 3 ∨ i = 4) ∨ (820 ≤ i ∧ i < 1300 ∧ (i - 820) % 8 < 7) ∨ (10 ≤ i ∧ i < 90 ∧ (i - 10) % 20 < 6)
theorem clr_eq {u u' : Nat → Int32} (h : ∀ i, twP i → u i = u' i) : clr S β u = clr S β u' := by
  funext a k
  show (if _ then _ else _) = (if _ then _ else _)
  by_cases h1 : a = β ∧ (k = 2 ∨ k = 3 ∨ k = 4)
  · rw [if_pos h1, if_pos h1, h _ (Or.inl h1.2)]
  · rw [if_neg h1, if_neg h1]
    by_cases h2 : β + 3 ≤ a ∧ a < β + 63 ∧ k < 7
    · rw [if_pos h2, if_pos h2, h _ (Or.inr (Or.inl (by omega)))]
    · rw [if_neg h2, if_neg h2]
      by_cases h3 : β + 63 ≤ a ∧ a < β + 67 ∧ k < 6
      · have hk := cmp_lt h3.2.2
        rw [if_pos h3, if_pos h3, h _ (Or.inr (Or.inr (by omega)))]
      · rw [if_neg h3, if_neg h3]
theorem clr_of {u : Nat → Int32} (h : ∀ i, twP i → u i = rdR S β i) : clr S β u = S := (clr_eq h).trans clr_rd
theorem rd_clr {i : Nat} (hi : twP i) : rdR (clr S β w) β i = w i := by
  show (if _ then _ else _) = _
  rcases hi with h | h | h
  · rw [if_pos h, clr_t h]
  · rw [if_neg (by omega), if_pos (by omega), clr_p (by omega) (by omega)]
    exact congrArg w (by omega)
  · rw [if_neg (by omega), if_neg (by omega), if_pos (by omega), clr_c (by omega) (cmp_lt h.2.2), cmp_cmp]
    exact congrArg w (by omega)
theorem telR_at {i : Nat} (h : telR S β w) (hi : twP i) : w i = rdR S β i := by
  rw [← rd_clr (S := S) (β := β) (w := w) hi]
  exact congrArg (fun z => rdR z β i) h
theorem pbW_at {p j : Nat} : pbW w w2 p j = if 820 + 8 * p ≤ j ∧ j < 820 + 8 * p + 7 then w2 j else w j := by
  by_cases h : 820 + 8 * p ≤ j ∧ j < 820 + 8 * p + 7
  · rw [if_pos h]
    unfold pbW
    have h7 : j = 820 + 8 * p + 0 ∨ j = 820 + 8 * p + 1 ∨ j = 820 + 8 * p + 2 ∨ j = 820 + 8 * p + 3 ∨ j = 820 + 8 * p + 4 ∨ j = 820 + 8 * p + 5 ∨ j = 820 + 8 * p + 6 := by omega
    rcases h7 with e | e | e | e | e | e | e <;> subst e <;> simp [up]
  · rw [if_neg h]
    unfold pbW
    rw [up_n (by omega), up_n (by omega), up_n (by omega), up_n (by omega), up_n (by omega), up_n (by omega), up_n (by omega)]
theorem pbL_at : ∀ (k i : Nat) (w : Nat → Int32), i ≤ n → n < i + k → ∀ j, pbL w2 n k i w j = if 820 + 8 * i ≤ j ∧ j < 820 + 8 * n ∧ (j - 820) % 8 < 7 then w2 j else w j
  | 0, i, w, h1, h2, j => absurd h2 (by omega)
  | k + 1, i, w, h1, h2, j => by
    simp only [pbL]
    by_cases hi : i < n
    · rw [if_pos hi, pbL_at k (i + 1) _ (by omega) (by omega), pbW_at]
      by_cases a : 820 + 8 * (i + 1) ≤ j ∧ j < 820 + 8 * n ∧ (j - 820) % 8 < 7
      · rw [if_pos a, if_pos (by omega)]
      · rw [if_neg a]
        by_cases b : 820 + 8 * i ≤ j ∧ j < 820 + 8 * i + 7
        · rw [if_pos b, if_pos (by omega)]
        · rw [if_neg b, if_neg (by omega)]
    · rw [if_neg hi, if_neg (by omega)]
theorem cbW_at {p j : Nat} : cbW w w2 p j = if 10 + 20 * p ≤ j ∧ j < 10 + 20 * p + 6 then w2 j else w j := by
  by_cases h : 10 + 20 * p ≤ j ∧ j < 10 + 20 * p + 6
  · rw [if_pos h]
    unfold cbW
    have h7 : j = 10 + 20 * p + 0 ∨ j = 10 + 20 * p + 1 ∨ j = 10 + 20 * p + 2 ∨ j = 10 + 20 * p + 3 ∨ j = 10 + 20 * p + 4 ∨ j = 10 + 20 * p + 5 := by omega
    rcases h7 with e | e | e | e | e | e <;> subst e <;> simp [up]
  · rw [if_neg h]
    unfold cbW
    rw [up_n (by omega), up_n (by omega), up_n (by omega), up_n (by omega), up_n (by omega), up_n (by omega)]
theorem cbL_at : ∀ (k i : Nat) (w : Nat → Int32), i ≤ 4 → 4 < i + k → ∀ j, cbL w2 k i w j = if 10 + 20 * i ≤ j ∧ j < 90 ∧ (j - 10) % 20 < 6 then w2 j else w j
  | 0, i, w, h1, h2, j => absurd h2 (by omega)
  | k + 1, i, w, h1, h2, j => by
    simp only [cbL]
    by_cases hi : i < 4
    · rw [if_pos hi, cbL_at k (i + 1) _ (by omega) (by omega), cbW_at]
      by_cases a : 10 + 20 * (i + 1) ≤ j ∧ j < 90 ∧ (j - 10) % 20 < 6
      · rw [if_pos a, if_pos (by omega)]
      · rw [if_neg a]
        by_cases b : 10 + 20 * i ≤ j ∧ j < 10 + 20 * i + 6
        · rw [if_pos b, if_pos (by omega)]
        · rw [if_neg b, if_neg (by omega)]
    · rw [if_neg hi, if_neg (by omega)]
theorem cbV_at (h : β2 + 67 ≤ β ∨ β + 67 ≤ β2) : ∀ (k i : Nat) (U : tU), i ≤ 4 → 4 < i + k → ∀ a j, cbV β β2 k i U a j = if β + 63 + i ≤ a ∧ a < β + 67 ∧ (j = 6 ∨ j = 7) then U (β2 + (a - β)) j else U a j
  | 0, i, U, h1, h2, a, j => absurd h2 (by omega)
  | k + 1, i, U, h1, h2, a, j => by
    simp only [cbV]
    by_cases hi : i < 4
    · rw [if_pos hi, cbV_at h k (i + 1) _ (by omega) (by omega)]
      by_cases e1 : β + 63 + (i + 1) ≤ a ∧ a < β + 67 ∧ (j = 6 ∨ j = 7)
      · rw [if_pos e1, if_pos (by omega)]
        show (if β2 + (a - β) = β + 63 + i ∧ j = 7 then _ else if β2 + (a - β) = β + 63 + i ∧ j = 6 then _ else U _ _) = _
        rw [if_neg (by omega), if_neg (by omega)]
      · rw [if_neg e1]
        show (if a = β + 63 + i ∧ j = 7 then U (β2 + 63 + i) 7 else if a = β + 63 + i ∧ j = 6 then U (β2 + 63 + i) 6 else U a j) = _
        by_cases e7 : a = β + 63 + i ∧ j = 7
        · rw [if_pos e7, if_pos (by omega), e7.2, e7.1, show β2 + (β + 63 + i - β) = β2 + 63 + i by omega]
        · rw [if_neg e7]
          by_cases e6 : a = β + 63 + i ∧ j = 6
          · rw [if_pos e6, if_pos (by omega), e6.2, e6.1, show β2 + (β + 63 + i - β) = β2 + 63 + i by omega]
          · rw [if_neg e6, if_neg (by omega)]
    · rw [if_neg hi, if_neg (by omega)]
/-- the row of a tower at β that became one by the row v (people from n on are as they were) -/
def vtW (S : tT) (β n : Nat) (v : Nat → Int32) : Nat → Int32 := fun i => if 820 + 8 * n ≤ i ∧ i < 1300 then rdR S β i else v i
def bcU (U : tU) (β β2 : Nat) : tU := fun a j => if β + 63 ≤ a ∧ a < β + 67 ∧ (j = 6 ∨ j = 7) then U (β2 + (a - β)) j else U a j
theorem bec_row {X : tT} : clr X β (cbL v 5 0 (pbL v n (n + 1) 0 (up (up (up (rdR S β) 2 (v 2)) 3 (v 3)) 4 (v 4)))) = clr X β (vtW S β n v) := by
  refine clr_eq (fun i hi => ?_)
  rw [cbL_at 5 0 _ (by omega) (by omega), pbL_at (n + 1) 0 _ (by omega) (by omega)]
  show _ = (if _ then _ else _)
  rcases hi with h | h | h
  · rw [if_neg (by omega), if_neg (by omega), if_neg (by omega)]
    rcases h with e | e | e <;> subst e <;> simp [up]
  · by_cases hn : 820 + 8 * n ≤ i
    · rw [if_neg (by omega), if_neg (by omega), if_pos (by omega), up_n (by omega), up_n (by omega), up_n (by omega)]
    · rw [if_neg (by omega), if_pos (by omega), if_neg (by omega)]
  · rw [if_pos (by omega), if_neg (by omega)]
theorem bec_U (h : β2 + 67 ≤ β ∨ β + 67 ≤ β2) : cbV β β2 5 0 U = bcU U β β2 := by
  funext a j
  rw [cbV_at h 5 0 U (by omega) (by omega)]
  rfl
/-- become, in plain words: the tower at β becomes the one at β2, which the row v tells -/
theorem d_becomeT (hL : LT g M β) (hL2 : LT g M β2) (hdj : β2 + 67 ≤ β ∨ β + 67 ≤ β2) (ho : ∀ c, c < 4 → v (10 + 20 * c + 4) = 0 ∨ v (10 + 20 * c + 4) = nI 1) (hn : n ≤ 60) (hw : v 2 = nI n) : fc_CX g l yX3_become cX3_become 3 (none) 2 [.ref (fc_B g + β), .ref (fc_B g + β2)] (cR M S U β2 v) (fc_rn (cR (fc_put M β 5 .null) (tu (clr S β2 v) β 6 (-1)) (bcU U β β2) β (vtW S β n v))) := by
  have h := d_become (l := l) (S := S) (U := U) (w := rdR S β) hL hL2 hdj ho hn hw
  have e1 : clr (clr S β2 v) β (rdR S β) = clr S β2 v := by
    rw [clr_comm hdj, clr_rd]
  have e2 : cR M (clr S β2 v) U β (rdR S β) = cR M S U β2 v := congrArg (fun z => cl M z U) e1
  have e3 : cR (fc_put M β 5 .null) (tu (clr S β2 v) β 6 (-1)) (cbV β β2 5 0 U) β (cbL v 5 0 (pbL v n (n + 1) 0 (up (up (up (rdR S β) 2 (v 2)) 3 (v 3)) 4 (v 4)))) = cR (fc_put M β 5 .null) (tu (clr S β2 v) β 6 (-1)) (bcU U β β2) β (vtW S β n v) := by
    rw [bec_U hdj]
    exact congrArg (fun z => cl (fc_put M β 5 .null) z (bcU U β β2)) bec_row
  rw [e2, e3] at h
  exact h
end T99ZB
