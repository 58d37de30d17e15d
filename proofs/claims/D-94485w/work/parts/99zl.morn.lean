set_option maxRecDepth 100000
/-! ===== a morning of the class by its row, and the reference's ===== -/
section T99ZL
variable {g : fc_G} {l : Launch} {M : fc_M} {S : tT} {U : tU} {π f nC n : Nat} {v w : Nat → Int32} {τ : Nat → Nat}
def bgV (pf : Nat → Int32) (c k : Nat) : Int32 := if k = 0 then pf c else if k = 5 then -1 else nI 0
theorem bgW_at {pf : Nat → Int32} {c j : Nat} : up (up (up (up (up (up w (10 + 20 * c + 0) (pf c)) (10 + 20 * c + 1) (nI 0)) (10 + 20 * c + 2) (nI 0)) (10 + 20 * c + 3) (nI 0)) (10 + 20 * c + 5) (-1)) (10 + 20 * c + 4) (nI 0) j = if 10 + 20 * c ≤ j ∧ j < 10 + 20 * c + 6 then bgV pf c (j - (10 + 20 * c)) else w j := by
  by_cases h : 10 + 20 * c ≤ j ∧ j < 10 + 20 * c + 6
  · rw [if_pos h]
    have h7 : j = 10 + 20 * c + 0 ∨ j = 10 + 20 * c + 1 ∨ j = 10 + 20 * c + 2 ∨ j = 10 + 20 * c + 3 ∨ j = 10 + 20 * c + 4 ∨ j = 10 + 20 * c + 5 := by omega
    rcases h7 with e | e | e | e | e | e <;> subst e <;> simp [up, bgV]
  · rw [if_neg h, up_n (by omega), up_n (by omega), up_n (by omega), up_n (by omega), up_n (by omega), up_n (by omega)]
theorem bgL_at {pf : Nat → Int32} : ∀ (k c : Nat) (w : Nat → Int32), c ≤ 4 → 4 < c + k → ∀ j, bgL pf k c w j = if 10 + 20 * c ≤ j ∧ j < 90 ∧ (j - 10) % 20 < 6 then bgV pf ((j - 10) / 20) ((j - 10) % 20) else w j
  | 0, c, w, h1, h2, j => absurd h2 (by omega)
  | k + 1, c, w, h1, h2, j => by
    simp only [bgL]
    by_cases hi : c < 4
    · rw [if_pos hi, bgL_at k (c + 1) _ (by omega) (by omega), bgW_at]
      by_cases a : 10 + 20 * (c + 1) ≤ j ∧ j < 90 ∧ (j - 10) % 20 < 6
      · rw [if_pos a, if_pos (by omega)]
      · rw [if_neg a]
        by_cases b : 10 + 20 * c ≤ j ∧ j < 10 + 20 * c + 6
        · rw [if_pos b, if_pos (by omega), show (j - 10) / 20 = c by omega, show (j - 10) % 20 = j - (10 + 20 * c) by omega]
        · rw [if_neg b, if_neg (by omega)]
    · rw [if_neg hi, if_neg (by omega)]
theorem bgU_at {β : Nat} : ∀ (k c : Nat) (U : tU), c ≤ 4 → 4 < c + k → ∀ a j, bgU β k c U a j = if β + 63 + c ≤ a ∧ a < β + 67 ∧ (j = 6 ∨ j = 7) then 0 else U a j
  | 0, c, U, h1, h2, a, j => absurd h2 (by omega)
  | k + 1, c, U, h1, h2, a, j => by
    simp only [bgU]
    by_cases hi : c < 4
    · rw [if_pos hi, bgU_at k (c + 1) _ (by omega) (by omega)]
      by_cases e1 : β + 63 + (c + 1) ≤ a ∧ a < β + 67 ∧ (j = 6 ∨ j = 7)
      · rw [if_pos e1, if_pos (by omega)]
      · rw [if_neg e1]
        show (if a = β + 63 + c ∧ j = 7 then (0 : Int64) else if a = β + 63 + c ∧ j = 6 then 0 else U a j) = _
        by_cases e7 : a = β + 63 + c ∧ j = 7
        · rw [if_pos e7, if_pos (by omega)]
        · rw [if_neg e7]
          by_cases e6 : a = β + 63 + c ∧ j = 6
          · rw [if_pos e6, if_pos (by omega)]
          · rw [if_neg e6, if_neg (by omega)]
    · rw [if_neg hi, if_neg (by omega)]
theorem pkW_pt : ∀ (k c : Nat) (w : Nat → Int32), c ≤ nC → nC < c + k → ∀ j, pkW nC k c w j = if 10 + 20 * c ≤ j ∧ j < 10 + 20 * nC ∧ (j - 10) % 20 < 4 then (if (j - 10) % 20 = 0 then w (j + 10) else nI 0) else w j
  | 0, c, w, h1, h2, j => absurd h2 (by omega)
  | k + 1, c, w, h1, h2, j => by
    simp only [pkW]
    by_cases hi : c < nC
    · rw [if_pos hi, pkW_pt k (c + 1) _ (by omega) (by omega)]
      have e10 : ∀ q, 10 + 20 * (c + 1) ≤ q → up (up (up (up w (10 + 20 * c + 0) (w (10 + 20 * c + 10))) (10 + 20 * c + 1) (nI 0)) (10 + 20 * c + 2) (nI 0)) (10 + 20 * c + 3) (nI 0) q = w q := fun q hq => by rw [up_n (by omega), up_n (by omega), up_n (by omega), up_n (by omega)]
      by_cases a : 10 + 20 * (c + 1) ≤ j ∧ j < 10 + 20 * nC ∧ (j - 10) % 20 < 4
      · rw [if_pos a, if_pos (show 10 + 20 * c ≤ j ∧ j < 10 + 20 * nC ∧ (j - 10) % 20 < 4 by omega), e10 _ (by omega)]
      · rw [if_neg a]
        by_cases b : 10 + 20 * c ≤ j ∧ j < 10 + 20 * c + 4
        · rw [if_pos (by omega)]
          have h7 : j = 10 + 20 * c + 0 ∨ j = 10 + 20 * c + 1 ∨ j = 10 + 20 * c + 2 ∨ j = 10 + 20 * c + 3 := by omega
          rcases h7 with e | e | e | e
          · subst e
            rw [if_pos (by omega), up_n (by omega), up_n (by omega), up_n (by omega), up_s]
          · subst e
            rw [if_neg (by omega), up_n (by omega), up_n (by omega), up_s]
          · subst e
            rw [if_neg (by omega), up_n (by omega), up_s]
          · subst e
            rw [if_neg (by omega), up_s]
        · rw [if_neg (by omega), up_n (by omega), up_n (by omega), up_n (by omega), up_n (by omega)]
    · rw [if_neg hi, if_neg (by omega)]
theorem oo1_pt : ∀ (k c : Nat) (w : Nat → Int32), c ≤ nC → nC < c + k → ∀ j, oo1 nC k c w j = if 10 + 20 * c ≤ j ∧ j < 10 + 20 * nC ∧ ((j - 10) % 20 = 4 ∨ (j - 10) % 20 = 5) then (if (j - 10) % 20 = 4 then nI 0 else -1) else w j
  | 0, c, w, h1, h2, j => absurd h2 (by omega)
  | k + 1, c, w, h1, h2, j => by
    simp only [oo1]
    by_cases hi : c < nC
    · rw [if_pos hi, oo1_pt k (c + 1) _ (by omega) (by omega)]
      by_cases a : 10 + 20 * (c + 1) ≤ j ∧ j < 10 + 20 * nC ∧ ((j - 10) % 20 = 4 ∨ (j - 10) % 20 = 5)
      · rw [if_pos a, if_pos (show 10 + 20 * c ≤ j ∧ j < 10 + 20 * nC ∧ ((j - 10) % 20 = 4 ∨ (j - 10) % 20 = 5) by omega)]
      · rw [if_neg a]
        by_cases e4 : j = 10 + 20 * c + 4
        · subst e4
          rw [up_n (by omega), up_s, if_pos (by omega), if_pos (by omega)]
        · by_cases e5 : j = 10 + 20 * c + 5
          · subst e5
            rw [up_s, if_pos (by omega), if_neg (by omega)]
          · rw [up_n e5, up_n e4, if_neg (by omega)]
    · rw [if_neg hi, if_neg (by omega)]
theorem oo2_pt : ∀ (k i : Nat) (w : Nat → Int32), i ≤ 740 → 740 < i + k → ∀ j, oo2 k i w j = if i ≤ j ∧ j < 740 then nI 0 else w j
  | 0, i, w, h1, h2, j => absurd h2 (by omega)
  | k + 1, i, w, h1, h2, j => by
    simp only [oo2]
    by_cases hi : i < 740
    · rw [if_pos hi, oo2_pt k (i + 1) _ (by omega) (by omega)]
      by_cases a : i + 1 ≤ j ∧ j < 740
      · rw [if_pos a, if_pos (by omega)]
      · rw [if_neg a]
        by_cases e : j = i
        · subst e
          rw [up_s, if_pos (by omega)]
        · rw [up_n e, if_neg (by omega)]
    · rw [if_neg hi, if_neg (by omega)]
/-- the reference's row of a morning ahead of its people, place by place -/
theorem mo0_g {r : Int32} {i : Nat} (hC : nC ≤ 4) (hi : i < 10 ∨ (100 ≤ i ∧ i < 820) ∨ 1300 ≤ i) : mo0 nC r w i = if i = 2 then nI 0 else if i = 3 then nI 0 else if i = 4 then r else if 420 ≤ i ∧ i < 740 then nI 0 else w i := by
  unfold mo0
  rw [pkW_pt (nC + 1) 0 _ (by omega) (by omega), if_neg (by omega), oo2_pt 321 420 _ (by omega) (by omega)]
  by_cases a : 420 ≤ i ∧ i < 740
  · rw [if_pos a, if_neg (by omega), if_neg (by omega), if_neg (by omega), if_pos a]
  · rw [if_neg a, oo1_pt (nC + 1) 0 _ (by omega) (by omega), if_neg (by omega)]
    by_cases e2 : i = 2
    · subst e2; rw [up_n (by omega), up_n (by omega), up_s, if_pos rfl]
    · rw [if_neg e2]
      by_cases e3 : i = 3
      · subst e3; rw [up_n (by omega), up_s, if_pos rfl]
      · rw [if_neg e3]
        by_cases e4 : i = 4
        · subst e4; rw [up_s, if_pos rfl]
        · rw [if_neg e4, up_n e4, up_n e3, up_n e2, if_neg a]
theorem mo0_c {r : Int32} {c k : Nat} (hC : nC ≤ 4) (hc : c < nC) (hk : k < 20) : mo0 nC r w (10 + 20 * c + k) = if k < 6 then bgV (fun c => w (10 + 20 * c + 10)) c k else w (10 + 20 * c + k) := by
  unfold mo0
  rw [pkW_pt (nC + 1) 0 _ (by omega) (by omega), show (10 + 20 * c + k - 10) % 20 = k by omega]
  have hlow : ∀ q, 10 ≤ q → q < 100 → oo2 321 420 (oo1 nC (nC + 1) 0 (up (up (up w 2 (nI 0)) 3 (nI 0)) 4 r)) q = if q < 10 + 20 * nC ∧ ((q - 10) % 20 = 4 ∨ (q - 10) % 20 = 5) then (if (q - 10) % 20 = 4 then nI 0 else -1) else w q := by
    intro q h1 h2
    rw [oo2_pt 321 420 _ (by omega) (by omega), if_neg (by omega), oo1_pt (nC + 1) 0 _ (by omega) (by omega)]
    by_cases z : q < 10 + 20 * nC ∧ ((q - 10) % 20 = 4 ∨ (q - 10) % 20 = 5)
    · rw [if_pos (by omega), if_pos z]
    · rw [if_neg (by omega), if_neg z, up_n (by omega), up_n (by omega), up_n (by omega)]
  by_cases h4 : k < 4
  · rw [if_pos (show 10 + 20 * 0 ≤ 10 + 20 * c + k ∧ 10 + 20 * c + k < 10 + 20 * nC ∧ k < 4 by omega), if_pos (show k < 6 by omega)]
    unfold bgV
    by_cases h0 : k = 0
    · subst h0
      rw [if_pos rfl, if_pos rfl, hlow _ (by omega) (by omega), if_neg (by omega)]
    · rw [if_neg h0, if_neg h0, if_neg (by omega)]
  · rw [if_neg (by omega), hlow _ (by omega) (by omega), show (10 + 20 * c + k - 10) % 20 = k by omega]
    by_cases h6 : k < 6
    · rw [if_pos (by omega), if_pos h6]
      unfold bgV
      by_cases e4 : k = 4
      · subst e4; rfl
      · have e5 : k = 5 := by omega
        subst e5; rfl
    · rw [if_neg (by omega), if_neg h6]
/-- the class's row of a morning ahead of its people -/
def m0C (S : tT) (π n r : Nat) (v : Nat → Int32) : Nat → Int32 := up (bgL (fun c => S (π + 5) c) 5 0 (up (up (vtW S 99 n v) 2 (nI 0)) 3 (nI 0))) 4 (nI r)
theorem m0C_at {r i : Nat} (hi : i < 820 ∨ 1300 ≤ i) : m0C S π n r v i = if i = 2 then nI 0 else if i = 3 then nI 0 else if i = 4 then nI r else if 10 ≤ i ∧ i < 90 ∧ (i - 10) % 20 < 6 then bgV (fun c => S (π + 5) c) ((i - 10) / 20) ((i - 10) % 20) else v i := by
  unfold m0C
  by_cases e4 : i = 4
  · subst e4
    rw [up_s, if_neg (by omega), if_neg (by omega), if_pos rfl]
  · rw [up_n e4, bgL_at 5 0 _ (by omega) (by omega)]
    by_cases e2 : i = 2
    · subst e2
      rw [if_neg (by omega), up_n (by omega), up_s, if_pos rfl]
    · rw [if_neg e2]
      by_cases e3 : i = 3
      · subst e3
        rw [if_neg (by omega), up_s, if_pos rfl]
      · rw [if_neg e3, if_neg e4]
        by_cases a : 10 ≤ i ∧ i < 90 ∧ (i - 10) % 20 < 6
        · rw [if_pos (by omega), if_pos a]
        · rw [if_neg (by omega), if_neg a, up_n e3, up_n e2, vt_n (by omega)]
theorem m0C_Rl {r : Nat} (hC : nC ≤ 4) (hpf : ∀ c, c < nC → S (π + 5) c = v (10 + 20 * c + 10)) (hfun : ∀ i, 420 ≤ i → i < 740 → v i = 0) : Rl 0 nC (m0C S π n r v) (mo0 nC (nI r) v) := by
  refine ⟨fun i hi => ?_, fun c hc k hk => ?_, fun p hp => absurd hp (by omega), fun p hp => absurd hp (by omega)⟩
  · rw [m0C_at (by omega), mo0_g hC hi]
    by_cases e2 : i = 2
    · rw [if_pos e2, if_pos e2]
    · rw [if_neg e2, if_neg e2]
      by_cases e3 : i = 3
      · rw [if_pos e3, if_pos e3]
      · rw [if_neg e3, if_neg e3]
        by_cases e4 : i = 4
        · rw [if_pos e4, if_pos e4]
        · rw [if_neg e4, if_neg e4, if_neg (by omega)]
          by_cases a : 420 ≤ i ∧ i < 740
          · rw [if_pos a, hfun i a.1 a.2]; rfl
          · rw [if_neg a]
  · rw [m0C_at (by omega), mo0_c hC hc hk, if_neg (by omega), if_neg (by omega), if_neg (by omega), show (10 + 20 * c + k - 10) % 20 = k by omega, show (10 + 20 * c + k - 10) / 20 = c by omega]
    by_cases h6 : k < 6
    · rw [if_pos (by omega), if_pos h6]
      unfold bgV
      by_cases h0 : k = 0
      · rw [if_pos h0, if_pos h0]
        exact hpf c hc
      · rw [if_neg h0, if_neg h0]
    · rw [if_neg (by omega), if_neg h6]
/-- one who comes -/
theorem Rl_come {p : Nat} {a b c : Int32} (hC : nC ≤ 4) (hp6 : p < 60) (h : Rl p nC v w) : Rl (p + 1) nC (up (isR v p a b c) 2 (nI (p + 1))) (cmW w p a b c) := by
  have e1 : ∀ i, i ≠ 2 → (∀ k, k < 5 → i ≠ 820 + 8 * p + k) → up (isR v p a b c) 2 (nI (p + 1)) i = v i := fun i h2 hk => by
    unfold isR
    rw [up_n h2, up_n (hk 4 (by decide)), up_n (hk 3 (by decide)), up_n (hk 2 (by decide)), up_n (hk 1 (by decide)), up_n (hk 0 (by decide))]
  have e2 : ∀ i, i ≠ 2 → (∀ k, k < 7 → i ≠ 820 + 8 * p + k) → cmW w p a b c i = w i := fun i h2 hk => cmW_fr h2 hk
  refine ⟨fun i hi => ?_, fun q hq k hk => ?_, fun q hq k hk => ?_, fun q hq => ?_⟩
  · by_cases i2 : i = 2
    · subst i2
      unfold cmW
      rw [up_s, up_s]
    · rw [e1 i i2 (fun k hk => by omega), e2 i i2 (fun k hk => by omega)]
      exact h.g1 hi
  · rw [e1 _ (by omega) (fun k2 hk2 => by omega), e2 _ (by omega) (fun k2 hk2 => by omega)]
    exact h.c1 hq hk
  · by_cases e : q = p
    · subst e
      unfold cmW isR
      have h7 : k = 0 ∨ k = 1 ∨ k = 2 ∨ k = 3 ∨ k = 4 := by omega
      rcases h7 with e | e | e | e | e <;> subst e <;> simp [up]
    · rw [e1 _ (by omega) (fun k2 hk2 => by omega), e2 _ (by omega) (fun k2 hk2 => by omega)]
      exact h.p1 (by omega) hk
  · by_cases e : q = p
    · subst e
      have e3 : cmW w q a b c (820 + 8 * q + 3) = nI 0 := by
        unfold cmW
        rw [up_n (by omega), up_n (by omega), up_n (by omega), up_n (by omega), up_s]
      rw [e3]
      exact ⟨fun z => by rcases z with z | z <;> exact absurd z (by decide), fun z => absurd z (by decide)⟩
    · rw [e2 (820 + 8 * q + 3) (by omega) (fun k2 hk2 => by omega), e2 (820 + 8 * q + 5) (by omega) (fun k2 hk2 => by omega), e2 (820 + 8 * q + 6) (by omega) (fun k2 hk2 => by omega), e1 _ (by omega) (fun k2 hk2 => by omega), e1 _ (by omega) (fun k2 hk2 => by omega)]
      exact h.2.2.2 q (by omega)
end T99ZL
