set_option maxRecDepth 100000
/-! ===== places: class and reference find the same ===== -/
section P03
variable {v w : Nat → Int32} {n nC F : Nat} {A : Nat → Int32}
def wtE (v w : Nat → Int32) : Prop := ∀ i, i < 80 → v (740 + i) = w (740 + i)
theorem Rl.wt (h : Rl n nC v w) : wtE v w := fun i hi => h.g1 (by omega)
theorem blL_cg (h : wtE v w) {f : Nat} (hf : f ≤ 80) : ∀ (k i : Nat) (x : Int32), blL v f k i x = blL w f k i x
  | 0, _, _ => rfl
  | k + 1, i, x => by
    rw [blL, blL]
    by_cases e : i < f
    · rw [if_pos e, if_pos e, h i (by omega), blL_cg h hf k]
    · rw [if_neg e, if_neg e]
theorem bwL_cg (h : wtE v w) (hF : F ≤ 80) {a : Nat} {b : Int32} : ∀ (k i : Nat) (x : Int32), bwL v F a b k i x = bwL w F a b k i x
  | 0, _, _ => rfl
  | k + 1, i, x => by
    rw [bwL, bwL]
    by_cases e : i < F
    · rw [if_pos e, if_pos e, h i (by omega), bwL_cg h hF k]
    · rw [if_neg e, if_neg e]
theorem bwQ_cg (h : wtE v w) (hF : F ≤ 80) {a : Nat} {b : Int32} : bwQ v F a b = bwQ w F a b := bwL_cg h hF _ _ _
theorem blQ_cg (h : wtE v w) {f : Nat} (hf : f ≤ 80) : blQ v f = blQ w f := blL_cg h hf _ _ _
theorem laZ_cg (h : wtE v w) (hF : F ≤ 80) : ∀ (k i : Nat) (A : Nat → Int32), laZ v F k i A = laZ w F k i A
  | 0, _, _ => rfl
  | k + 1, i, A => by rw [laZ, laZ, bwQ_cg h hF, laZ_cg h hF k]
theorem laS_wt (h : wtE v w) (hF : F ≤ 80) {m f : Nat} : ∀ (k i : Nat) (x : Int32), laS v F m f A k i x = laS w F m f A k i x
  | 0, _, _ => rfl
  | k + 1, i, x => by rw [laS, laS, bwQ_cg h hF, laS_wt h hF k, laS_wt h hF k]
theorem laI_cg (h : wtE v w) (hF : F ≤ 80) {m : Nat} : ∀ (k i : Nat) (A : Nat → Int32), laI v F m k i A = laI w F m k i A
  | 0, _, _ => rfl
  | k + 1, i, A => by rw [laI, laI, laS_wt h hF, laI_cg h hF k]
theorem laO_cg (h : wtE v w) (hF : F ≤ 80) : ∀ (k i : Nat) (A : Nat → Int32), laO v F n k i A = laO w F n k i A
  | 0, _, _ => rfl
  | k + 1, i, A => by rw [laO, laO, laI_cg h hF, laO_cg h hF k]
theorem laA_cg (h : wtE v w) (hF : F ≤ 80) : laA v F n A = laA w F n A := by
  unfold laA
  rw [laZ_cg h hF, laO_cg h hF]
theorem ppS_cg (h : wtE v w) (hF : F ≤ 80) : ∀ (k a : Nat) (s : Int32) (C : Nat → Int32), ppS v F n A k a s C = ppS w F n A k a s C
  | 0, _, _, _ => rfl
  | k + 1, a, s, C => by
    rw [ppS, ppS]
    by_cases e : a < F
    · rw [if_pos e, if_pos e, blQ_cg h (show a ≤ 80 by omega), ppS_cg h hF k, ppS_cg h hF k]
    · rw [if_neg e, if_neg e]
theorem ppF_cg (h : wtE v w) (hF : F ≤ 80) {i a : Nat} : ∀ (k b : Nat), ppF v F n A i a k b = ppF w F n A i a k b
  | 0, _ => rfl
  | k + 1, b => by rw [ppF, ppF, bwQ_cg h hF, ppF_cg h hF k]
theorem ppO_cg (h : wtE v w) (hF : F ≤ 80) : ∀ (k i : Nat) (C : Nat → Int32), ppO v F n A k i C = ppO w F n A k i C
  | 0, _, _ => rfl
  | k + 1, i, C => by rw [ppO, ppO, ppF_cg h hF, ppO_cg h hF k]
theorem ppA_cg (h : wtE v w) (hF : F ≤ 80) {x : Int32} {C : Nat → Int32} : ppA v F n x A C = ppA w F n x A C := by
  unfold ppA
  rw [ppS_cg h hF, ppO_cg h hF]
theorem ppS_C (hF : F ≤ 80) (hW : WI w F) (hn : n ≤ 4) (hn1 : 1 ≤ n) (hA : AI w F n A) : ∀ (k a : Nat) (s : Int32) (C C' : Nat → Int32), F < a + k → ((¬ s = -1 ∧ C 0 = C' 0) ∨ (s = -1 ∧ a + (n - 1) < F)) → (ppS w F n A k a s C).1 = (ppS w F n A k a s C').1 ∧ (ppS w F n A k a s C).2 0 = (ppS w F n A k a s C').2 0
  | 0, a, s, C, C', hk, h => by
    rcases h with h | h
    · exact ⟨rfl, h.2⟩
    · omega
  | k + 1, a, s, C, C', hk, h => by
    rw [ppS, ppS]
    by_cases e : a < F
    · rw [if_pos e, if_pos e]
      by_cases e1 : A (80 * (n - 1) + a) = -1
      · rw [if_pos e1, if_pos e1]
        refine ppS_C hF hW hn hn1 hA k (a + 1) s C C' (by omega) ?_
        rcases h with h | h
        · exact Or.inl h
        · exact absurd e1 ((hA (n - 1) a (by omega) e).2.1 h.2)
      · rw [if_neg e1, if_neg e1]
        by_cases e2 : s = -1 ∨ blQ w a + A (80 * (n - 1) + a) < s
        · rw [if_pos e2, if_pos e2]
          refine ppS_C hF hW hn hn1 hA k (a + 1) _ _ _ (by omega) (Or.inl ⟨?_, by rw [up_s, up_s]⟩)
          have ho : a + (n - 1) < F := by
            rcases Nat.lt_or_ge (a + (n - 1)) F with z | z
            · exact z
            · exact absurd (AI_out hA (n - 1) a (by omega) e z) e1
          obtain ⟨N, N1, N2⟩ := AI_bl hF hW hA (t := n - 1) (a := a) (by omega) hn ho
          rw [N2]
          exact nI_nm2 (by omega)
        · rw [if_neg e2, if_neg e2]
          refine ppS_C hF hW hn hn1 hA k (a + 1) s C C' (by omega) ?_
          rcases h with h | h
          · exact Or.inl h
          · exact absurd (Or.inl h.1) e2
    · rw [if_neg e, if_neg e]
      rcases h with h | h
      · exact ⟨rfl, h.2⟩
      · omega
theorem ppO_C : ∀ (k i : Nat) (C C' : Nat → Int32), 1 ≤ i → i ≤ n → n ≤ i + k → (∀ j, j < i → C j = C' j) → ∀ j, j < n → ppO w F n A k i C j = ppO w F n A k i C' j
  | 0, i, C, C', _, _, h, hC, j, hj => hC j (by omega)
  | k + 1, i, C, C', h1, h2, h, hC, j, hj => by
    rw [ppO, ppO]
    by_cases e : i < n
    · rw [if_pos e, if_pos e, hC (i - 1) (by omega)]
      refine ppO_C k (i + 1) _ _ (by omega) (by omega) (by omega) (fun x hx => ?_) j hj
      by_cases ex : x = i
      · subst ex; rw [up_s, up_s]
      · rw [up_n ex, up_n ex]; exact hC x (by omega)
    · rw [if_neg e, if_neg e]; exact hC j (by omega)
theorem pp_law {T : tT} {C : Nat → Int32} {x1 x2 : Int32} (h : wtE v w) (hF : F ≤ 80) (hW : WI w F) : ppK v F (fun n => laA w F n (T 13)) C x1 x2 = (ppQ T w F x1 x2).1 := by
  unfold ppK ppQ
  by_cases h1 : nI 1 ≤ x1 ∧ x1 ≤ nI 4
  · rw [if_pos h1]
    obtain ⟨m, m1, m2, rfl⟩ := nI_between (by decide) h1 (by decide)
    rw [nI_clamp (by omega)]
    by_cases h2 : F < m
    · rw [if_pos h2, if_neg (fun z => absurd z.2 (nI_ge h2 (by omega)))]
    · rw [if_neg h2, if_pos ⟨h1, nI_le (by omega) (by omega)⟩]
      by_cases h4 : x2 = 0 ∨ (nI 10 ≤ x2 ∧ x2 ≤ nI (9 + m))
      · rw [if_pos h4, if_pos h4]
        have hA := laA_AI (A := T 13) hF hW m2 m1
        rw [ppA_cg h hF]
        show ppR x2 _ _ = ppR x2 _ _
        obtain ⟨a1, a2⟩ := ppS_C hF hW m2 m1 hA (F + 1) 0 (-1) C (T 14) (by omega) (Or.inr ⟨rfl, by omega⟩)
        unfold ppR
        by_cases e : x2 = 0
        · rw [if_pos e, if_pos e]; exact a1
        · rw [if_neg e, if_neg e]
          have h5 : nI 10 ≤ x2 ∧ x2 ≤ nI (9 + m) := by rcases h4 with h4 | h4; exact absurd h4 e; exact h4
          obtain ⟨y, y1, y2, rfl⟩ := nI_between (by omega) h5 (by decide)
          rw [nI_clamp (by omega)]
          exact ppO_C m 1 _ _ (by omega) m1 (by omega) (fun j hj => (show j = 0 by omega) ▸ a2) _ (by omega)
      · rw [if_neg h4, if_neg h4]
  · rw [if_neg h1, if_neg (fun z => h1 z.1)]
theorem laO_0 : ∀ (k m : Nat) (A : Nat → Int32) {a : Nat}, 1 ≤ m → a < 80 → laO w F n k m A a = A a
  | 0, _, _, _, _, _ => rfl
  | k + 1, m, A, a, hm, ha => by
    rw [laO]
    by_cases e : m < n
    · rw [if_pos e, laO_0 k (m + 1) _ (by omega) ha]
      have : ∀ (k i : Nat) (A : Nat → Int32), laI w F m k i A a = A a := by
        intro k
        induction k with
        | zero => intro i A; rfl
        | succ k ih =>
          intro i A
          rw [laI]
          by_cases e2 : i < F
          · rw [if_pos e2, ih, up_n (by omega)]
          · rw [if_neg e2]
      exact this _ _ _
    · rw [if_neg e]
theorem laZ_in : ∀ (k i : Nat) (A : Nat → Int32) {a : Nat}, F < i + k → i ≤ a → a < F → laZ w F k i A a = bwQ w F a (-1)
  | 0, i, A, a, h, h1, h2 => by omega
  | k + 1, i, A, a, h, h1, h2 => by
    rw [laZ, if_pos (by omega)]
    by_cases e : a = i
    · subst e
      have : ∀ (k j : Nat) (B : Nat → Int32), a < j → laZ w F k j B a = B a := by
        intro k
        induction k with
        | zero => intro i B _; rfl
        | succ k ih =>
          intro j B hj
          rw [laZ]
          by_cases e2 : j < F
          · rw [if_pos e2, ih _ _ (by omega), up_n (by omega)]
          · rw [if_neg e2]
      rw [this _ _ _ (by omega), up_s]
    · exact laZ_in k (i + 1) _ (by omega) (by omega) h2
theorem laA_row0 (hF : F ≤ 80) {a : Nat} (ha : a < F) : laA w F n A (80 * 0 + a) = bwQ w F a (-1) := by
  unfold laA
  rw [show 80 * 0 + a = a by omega, laO_0 _ _ _ (by omega) (by omega)]
  exact laZ_in _ _ _ (by omega) (by omega) ha
theorem AI_cg (h : wtE v w) (hF : F ≤ 80) (hA : AI w F n A) : AI v F n A := fun t a ht ha => by
  obtain ⟨h1, h2, h3⟩ := hA t a ht ha
  exact ⟨h1, h2, fun z => by rw [laS_wt h hF]; exact h3 z⟩
theorem WI_cg (h : wtE v w) (hF : F ≤ 80) (hW : WI w F) : WI v F := fun i hi => by
  rw [h i (by omega)]
  exact hW i hi
end P03
