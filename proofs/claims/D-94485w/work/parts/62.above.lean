def WI (w : Nat → Int32) (F : Nat) : Prop := ∀ i, i < F → ∃ a, a ≤ 99 ∧ w (740 + i) = nI a
def Sm (K : Nat) (x : Int32) : Prop := x = -1 ∨ ∃ N, N ≤ K ∧ x = nI N
theorem bwD_nI {F a i : Nat} {b : Int32} (hF : F ≤ 80) (h1 : a < i) (h2 : i < F) (hb : b = -1 ∨ ∃ j, b = nI j ∧ i ≤ j ∧ j < F) : ∃ d, d ≤ 79 ∧ bwD a i b = nI d := by
  unfold bwD
  split
  · exact ⟨i - a, by omega, rfl⟩
  · rename_i c
    rcases hb with hb | ⟨j, rfl, hj1, hj2⟩
    · exact absurd hb c
    · split
      · exact ⟨i - a, by omega, rfl⟩
      · exact ⟨j - i, by omega, pk_sub hj1⟩
theorem bwL_nI {w : Nat → Int32} {F a : Nat} {b : Int32} (hF : F ≤ 80) (hW : WI w F) : ∀ (k i N : Nat), a < i → i ≤ F → (b = -1 ∨ ∃ j, b = nI j ∧ i ≤ j ∧ j < F) → ∃ N', N' ≤ N + 7821 * (F - i) ∧ bwL w F a b k i (nI N) = nI N'
  | 0, i, N, _, _, _ => ⟨N, by omega, rfl⟩
  | k + 1, i, N, h1, h2, hb => by
    by_cases c1 : i < F
    · by_cases c2 : nI i = b
      · exact ⟨N, by omega, by rw [bwL, if_pos c1, if_pos c2]⟩
      · obtain ⟨x, hx, ex⟩ := hW i c1
        obtain ⟨d, hd, ed⟩ := bwD_nI (a := a) hF h1 c1 hb
        have hb2 : b = -1 ∨ ∃ j, b = nI j ∧ i + 1 ≤ j ∧ j < F := by
          rcases hb with hb | ⟨j, e, hj1, hj2⟩
          · exact Or.inl hb
          · refine Or.inr ⟨j, e, ?_, hj2⟩
            have : i ≠ j := by
              intro z
              subst z
              exact c2 e.symm
            omega
        obtain ⟨N2, hN2, e2⟩ := bwL_nI (a := a) hF hW k (i + 1) (N + x * d) (by omega) (by omega) hb2
        have hxd : x * d ≤ 7821 := Nat.le_trans (Nat.mul_le_mul hx hd) (by decide)
        refine ⟨N2, by omega, ?_⟩
        rw [bwL, if_pos c1, if_neg c2, ex, ed, pk_mul, nI_add]
        exact e2
    · exact ⟨N, by omega, by rw [bwL, if_neg c1]⟩
theorem bwQ_nI {w : Nat → Int32} {F a : Nat} {b : Int32} (hF : F ≤ 80) (hW : WI w F) (ha : a < F) (hb : b = -1 ∨ ∃ j, b = nI j ∧ a < j ∧ j < F) : ∃ N, N ≤ 625680 ∧ bwQ w F a b = nI N := by
  obtain ⟨N, h, e⟩ := bwL_nI (a := a) (b := b) hF hW (F - a) (a + 1) 0 (by omega) (by omega) (by rcases hb with hb | ⟨j, e, hj1, hj2⟩; exact Or.inl hb; exact Or.inr ⟨j, e, hj1, hj2⟩)
  exact ⟨N, by omega, e⟩
theorem blL_nI {w : Nat → Int32} {F f : Nat} (hF : F ≤ 80) (hW : WI w F) (hf : f < F) : ∀ (k i N : Nat), i ≤ f → ∃ N', N' ≤ N + 7821 * (f - i) ∧ blL w f k i (nI N) = nI N'
  | 0, i, N, _ => ⟨N, by omega, rfl⟩
  | k + 1, i, N, h1 => by
    by_cases c1 : i < f
    · obtain ⟨x, hx, ex⟩ := hW i (by omega)
      obtain ⟨N2, hN2, e2⟩ := blL_nI hF hW hf k (i + 1) (N + x * (f - i)) (by omega)
      have hxd : x * (f - i) ≤ 7821 := Nat.le_trans (Nat.mul_le_mul hx (show f - i ≤ 79 by omega)) (by decide)
      refine ⟨N2, by omega, ?_⟩
      rw [blL, if_pos c1, ex, pk_mul, nI_add]
      exact e2
    · exact ⟨N, by omega, by rw [blL, if_neg c1]⟩
theorem blQ_nI {w : Nat → Int32} {F f : Nat} (hF : F ≤ 80) (hW : WI w F) (hf : f < F) : ∃ N, N ≤ 625680 ∧ blQ w f = nI N := by
  obtain ⟨N, h, e⟩ := blL_nI hF hW hf (f + 1) 0 0 (by omega)
  exact ⟨N, by omega, e⟩
theorem laS_ex {w : Nat → Int32} {F m f : Nat} {A : Nat → Int32} : ∀ (k i : Nat) (v : Int32), laS w F m f A k i v = v ∨ ∃ b, i ≤ b ∧ b < F ∧ ¬ A (80 * (m - 1) + b) = -1 ∧ bwQ w F f (nI b) + A (80 * (m - 1) + b) = laS w F m f A k i v
  | 0, _, _ => Or.inl rfl
  | k + 1, i, v => by
    by_cases c1 : i < F
    · by_cases c2 : A (80 * (m - 1) + i) = -1
      · rw [laS, if_pos c1, if_pos c2]
        rcases laS_ex k (i + 1) v with h | ⟨b, h1, h2⟩
        · exact Or.inl h
        · exact Or.inr ⟨b, by omega, h2⟩
      · rw [laS, if_pos c1, if_neg c2]
        rcases laS_ex k (i + 1) (if v = -1 then bwQ w F f (nI i) + A (80 * (m - 1) + i) else if bwQ w F f (nI i) + A (80 * (m - 1) + i) < v then bwQ w F f (nI i) + A (80 * (m - 1) + i) else v) with h | ⟨b, h1, h2⟩
        · rw [h]
          split
          · exact Or.inr ⟨i, Nat.le_refl _, c1, c2, rfl⟩
          · split
            · exact Or.inr ⟨i, Nat.le_refl _, c1, c2, rfl⟩
            · exact Or.inl rfl
        · exact Or.inr ⟨b, by omega, h2⟩
    · exact Or.inl (by rw [laS, if_neg c1])
theorem laS_Sm {w : Nat → Int32} {F m f K : Nat} {A : Nat → Int32} (hF : F ≤ 80) (hW : WI w F) (hf : f < F) (hK : K ≤ 10000000) (hA : ∀ i, i < F → Sm K (A (80 * (m - 1) + i))) : ∀ (k i : Nat) (v : Int32), f < i → F < i + k → Sm (K + 625680) v → Sm (K + 625680) (laS w F m f A k i v) ∧ ((¬ v = -1 ∨ ∃ j, i ≤ j ∧ j < F ∧ ¬ A (80 * (m - 1) + j) = -1) → ¬ laS w F m f A k i v = -1)
  | 0, i, v, h1, h2, hv => ⟨hv, fun h => by rcases h with h | ⟨j, a, b, _⟩; exact h; omega⟩
  | k + 1, i, v, h1, h2, hv => by
    by_cases c1 : i < F
    · by_cases c2 : A (80 * (m - 1) + i) = -1
      · rw [laS, if_pos c1, if_pos c2]
        obtain ⟨q1, q2⟩ := laS_Sm hF hW hf hK hA k (i + 1) v (by omega) (by omega) hv
        refine ⟨q1, fun h => q2 ?_⟩
        rcases h with h | ⟨j, a, b, e⟩
        · exact Or.inl h
        · refine Or.inr ⟨j, ?_, b, e⟩
          have : i ≠ j := by
            intro z
            subst z
            exact e c2
          omega
      · rw [laS, if_pos c1, if_neg c2]
        obtain ⟨N, hN, eN⟩ := bwQ_nI hF hW hf (Or.inr ⟨i, rfl, h1, c1⟩)
        rcases hA i c1 with hA1 | ⟨N1, hN1, eN1⟩
        · exact absurd hA1 c2
        · have es : bwQ w F f (nI i) + A (80 * (m - 1) + i) = nI (N + N1) := by rw [eN, eN1, nI_add]
          have hn : ¬ nI (N + N1) = -1 := bO_ne (by omega)
          have hs : Sm (K + 625680) (nI (N + N1)) := Or.inr ⟨N + N1, by omega, rfl⟩
          rw [es]
          have hv2 : Sm (K + 625680) (if v = -1 then nI (N + N1) else if nI (N + N1) < v then nI (N + N1) else v) ∧ ¬ (if v = -1 then nI (N + N1) else if nI (N + N1) < v then nI (N + N1) else v) = -1 := by
            split
            · exact ⟨hs, hn⟩
            · split
              · exact ⟨hs, hn⟩
              · exact ⟨hv, by assumption⟩
          obtain ⟨q1, q2⟩ := laS_Sm hF hW hf hK hA k (i + 1) _ (by omega) (by omega) hv2.1
          exact ⟨q1, fun _ => q2 (Or.inl hv2.2)⟩
    · rw [laS, if_neg c1]
      exact ⟨hv, fun h => by rcases h with h | ⟨j, a, b, _⟩; exact h; omega⟩
theorem laS_cg {w : Nat → Int32} {F m f : Nat} {A B : Nat → Int32} (h : ∀ i, i < F → A (80 * (m - 1) + i) = B (80 * (m - 1) + i)) : ∀ (k i : Nat) (v : Int32), laS w F m f A k i v = laS w F m f B k i v
  | 0, _, _ => rfl
  | k + 1, i, v => by
    by_cases c1 : i < F
    · simp only [laS]
      rw [if_pos c1, if_pos c1, h i c1, laS_cg h k, laS_cg h k]
    · rw [laS, laS, if_neg c1, if_neg c1]
theorem laZ_at {w : Nat → Int32} {F : Nat} : ∀ (k i : Nat) (A : Nat → Int32) (j : Nat), F < i + k → laZ w F k i A j = if i ≤ j ∧ j < F then bwQ w F j (-1) else A j
  | 0, i, A, j, h => by rw [laZ, if_neg (by omega)]
  | k + 1, i, A, j, h => by
    by_cases c1 : i < F
    · rw [laZ, if_pos c1, laZ_at k (i + 1) _ j (by omega)]
      by_cases c2 : i = j
      · subst c2
        rw [if_neg (by omega), if_pos ⟨Nat.le_refl _, c1⟩, up_s]
      · rw [up_n (fun z => c2 z.symm)]
        by_cases c3 : i + 1 ≤ j ∧ j < F
        · rw [if_pos c3, if_pos ⟨by omega, c3.2⟩]
        · rw [if_neg c3, if_neg (by omega)]
    · rw [laZ, if_neg c1, if_neg (by omega)]
theorem laI_at {w : Nat → Int32} {F m : Nat} (hF : F ≤ 80) (hm : 0 < m) : ∀ (k f : Nat) (A : Nat → Int32), F < f + k → (∀ j, f ≤ j → j < F → laI w F m k f A (80 * m + j) = laS w F m j A (F - j) (j + 1) (-1)) ∧ (∀ x, (x < 80 * m + f ∨ 80 * m + F ≤ x) → laI w F m k f A x = A x)
  | 0, f, A, h => ⟨fun j _ _ => by omega, fun x _ => rfl⟩
  | k + 1, f, A, h => by
    by_cases c1 : f < F
    · rw [laI, if_pos c1]
      obtain ⟨q1, q2⟩ := laI_at hF hm k (f + 1) (up A (80 * m + f) (laS w F m f A (F - f) (f + 1) (-1))) (by omega)
      refine ⟨fun j h1 h2 => ?_, fun x hx => ?_⟩
      · by_cases c2 : f = j
        · subst c2
          rw [q2 _ (by omega), up_s]
        · rw [q1 j (by omega) h2]
          exact laS_cg (fun i hi => up_n (by omega)) _ _ _
      · rw [q2 x (by omega), up_n (by omega)]
    · rw [laI, if_neg c1]
      exact ⟨fun j _ _ => by omega, fun x _ => rfl⟩
def AI (w : Nat → Int32) (F m : Nat) (A : Nat → Int32) : Prop := ∀ t a, t < m → a < F → Sm (625680 * (t + 1)) (A (80 * t + a)) ∧ (a + t < F → ¬ A (80 * t + a) = -1) ∧ (0 < t → A (80 * t + a) = laS w F t a A (F - a) (a + 1) (-1))
theorem AI_1 {w : Nat → Int32} {F : Nat} {A : Nat → Int32} (hF : F ≤ 80) (hW : WI w F) : AI w F 1 (laZ w F (F + 1) 0 A) := by
  intro t a ht ha
  obtain rfl : t = 0 := by omega
  obtain ⟨N, hN, e⟩ := bwQ_nI hF hW ha (Or.inl rfl)
  have e2 : laZ w F (F + 1) 0 A (80 * 0 + a) = nI N := by
    rw [laZ_at (F + 1) 0 A _ (by omega), if_pos (by omega), show 80 * 0 + a = a by omega]
    exact e
  rw [e2]
  exact ⟨Or.inr ⟨N, by omega, rfl⟩, fun _ => bO_ne (by omega), fun h => absurd h (by omega)⟩
theorem AI_s {w : Nat → Int32} {F m : Nat} {A : Nat → Int32} (hF : F ≤ 80) (hW : WI w F) (hm : 0 < m) (hm4 : m < 4) (h : AI w F m A) : AI w F (m + 1) (laI w F m (F + 1) 0 A) := by
  obtain ⟨q1, q2⟩ := laI_at (w := w) hF hm (F + 1) 0 A (by omega)
  intro t a ht ha
  by_cases c : t = m
  · subst c
    have hA : ∀ i, i < F → Sm (625680 * t) (A (80 * (t - 1) + i)) := fun i hi => by
      have := (h (t - 1) i (by omega) hi).1
      rwa [show t - 1 + 1 = t by omega] at this
    obtain ⟨k1, k2⟩ := laS_Sm hF hW ha (by omega) hA (F - a) (a + 1) (-1) (by omega) (by omega) (Or.inl rfl)
    rw [q1 a (by omega) ha]
    refine ⟨by rwa [show 625680 * (t + 1) = 625680 * t + 625680 by omega], fun h2 => k2 (Or.inr ⟨a + 1, by omega, by omega, (h (t - 1) (a + 1) (by omega) (by omega)).2.1 (by omega)⟩), fun _ => ?_⟩
    exact laS_cg (fun i hi => (q2 _ (by omega)).symm) _ _ _
  · obtain ⟨k1, k2, k3⟩ := h t a (by omega) ha
    rw [q2 (80 * t + a) (by omega)]
    refine ⟨k1, k2, fun h0 => ?_⟩
    rw [k3 h0]
    exact laS_cg (fun i hi => (q2 _ (by omega)).symm) _ _ _
theorem laO_AI {w : Nat → Int32} {F n : Nat} (hF : F ≤ 80) (hW : WI w F) (hn : n ≤ 4) : ∀ (k m : Nat) (A : Nat → Int32), 0 < m → m ≤ n → n < m + k → AI w F m A → AI w F n (laO w F n k m A)
  | 0, m, A, _, _, _, _ => by omega
  | k + 1, m, A, h0, h1, h2, h => by
    by_cases c : m < n
    · rw [laO, if_pos c]
      exact laO_AI hF hW hn k (m + 1) _ (by omega) (by omega) (by omega) (AI_s hF hW h0 (by omega) h)
    · obtain rfl : m = n := by omega
      rw [laO, if_neg c]
      exact h
theorem laA_AI {w : Nat → Int32} {F n : Nat} {A : Nat → Int32} (hF : F ≤ 80) (hW : WI w F) (hn : n ≤ 4) (hn1 : 1 ≤ n) : AI w F n (laA w F n A) := laO_AI hF hW hn n 1 _ (by omega) hn1 (by omega) (AI_1 hF hW)
theorem AI_HS {w : Nat → Int32} {F n : Nat} {A : Nat → Int32} (h : AI w F n A) : ∀ m a, 0 < m → m < n → a < F → ¬ A (80 * m + a) = -1 → ∃ b, a < b ∧ b < F ∧ ¬ A (80 * (m - 1) + b) = -1 ∧ bwQ w F a (nI b) + A (80 * (m - 1) + b) = A (80 * m + a) := by
  intro m a hm0 hm ha hA
  have e := (h m a hm ha).2.2 hm0
  rcases laS_ex (w := w) (F := F) (m := m) (f := a) (A := A) (F - a) (a + 1) (-1) with z | ⟨b, h1, h2, h3, h4⟩
  · exact absurd (e.trans z) hA
  · exact ⟨b, h1, h2, h3, h4.trans e.symm⟩
theorem ppS_ok {w : Nat → Int32} {F n : Nat} {A : Nat → Int32} (hF : F ≤ 80) (hW : WI w F) (hn : n ≤ 4) (hn1 : 1 ≤ n) (h : AI w F n A) : ∀ (k a : Nat) (s : Int32) (C : Nat → Int32), F < a + k → ((¬ s = -1 ∧ ∃ a, a < F ∧ C 0 = nI a ∧ ¬ A (80 * (n - 1) + a) = -1) ∨ (s = -1 ∧ a + (n - 1) < F)) → ∃ a2, a2 < F ∧ (ppS w F n A k a s C).2 0 = nI a2 ∧ ¬ A (80 * (n - 1) + a2) = -1
  | 0, a, s, C, h1, h2 => by
    rcases h2 with ⟨_, q⟩ | ⟨_, q⟩
    · exact q
    · omega
  | k + 1, a, s, C, h1, h2 => by
    by_cases c1 : a < F
    · by_cases c2 : A (80 * (n - 1) + a) = -1
      · rw [ppS, if_pos c1, if_pos c2]
        refine ppS_ok hF hW hn hn1 h k (a + 1) s C (by omega) ?_
        rcases h2 with q | ⟨_, q⟩
        · exact Or.inl q
        · exact absurd c2 ((h (n - 1) a (by omega) c1).2.1 q)
      · rw [ppS, if_pos c1, if_neg c2]
        have hv : ¬ blQ w a + A (80 * (n - 1) + a) = -1 := by
          obtain ⟨N, hN, e⟩ := blQ_nI hF hW c1
          rcases (h (n - 1) a (by omega) c1).1 with z | ⟨N1, hN1, e1⟩
          · exact absurd z c2
          · rw [e, e1, nI_add]
            exact bO_ne (by omega)
        split
        · exact ppS_ok hF hW hn hn1 h k (a + 1) _ _ (by omega) (Or.inl ⟨hv, a, c1, up_s, c2⟩)
        · rename_i c3
          refine ppS_ok hF hW hn hn1 h k (a + 1) s C (by omega) ?_
          rcases h2 with q | ⟨q, _⟩
          · exact Or.inl q
          · exact absurd (Or.inl q) c3
    · rw [ppS, if_neg c1]
      rcases h2 with ⟨_, q⟩ | ⟨_, q⟩
      · exact q
      · omega
