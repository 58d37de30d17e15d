set_option maxRecDepth 100000
/-! ===== zones: class and reference find the same ===== -/
section P01
variable {w : Nat → Int32} {F kk : Nat}
def zA (i : Nat) (s t : zS) : Prop := s.1 = t.1 ∧ ∀ j, j < i → s.2.1 j = t.2.1 j
def zB (k : Nat) (s t : zS) : Prop := ∀ j, j < k → s.2.2 j = t.2.2 j
theorem tcL_dead {R : Nat → zS → zS} {P : zS → Prop} {a : Nat} (h : ∀ c s, a ≤ c → P s → P (R c s)) : ∀ (k c : Nat) (s : zS), a ≤ c → P s → P (tcL R F k c s)
  | 0, _, _, _, h0 => h0
  | k + 1, c, s, hc, h0 => by
    rw [tcL]
    by_cases e : c < F
    · rw [if_pos e]; exact tcL_dead h k (c + 1) _ (by omega) (h c s hc h0)
    · rw [if_neg e]; exact h0
/-- where there is no room for the cuts to come nothing is found -/
theorem tc_dead : ∀ (j i fr : Nat) (sum : Int32) (s : zS), F ≤ fr + (j + 1) → (tcR w F kk (j + 1) i fr sum s).1 = s.1 ∧ (tcR w F kk (j + 1) i fr sum s).2.2 = s.2.2 ∧ ∀ x, x < i → (tcR w F kk (j + 1) i fr sum s).2.1 x = s.2.1 x
  | 0, i, fr, sum, s, h => by
    rw [tcR]
    by_cases e : s.1 = -1 ∨ sum < s.1
    · rw [if_pos e]
      cases hk : F - fr with
      | zero => exact ⟨rfl, rfl, fun _ _ => rfl⟩
      | succ k => rw [tcL, if_neg (by omega)]; exact ⟨rfl, rfl, fun _ _ => rfl⟩
    · rw [if_neg e]; exact ⟨rfl, rfl, fun _ _ => rfl⟩
  | j + 1, i, fr, sum, s, h => by
    rw [tcR]
    by_cases e : s.1 = -1 ∨ sum < s.1
    · rw [if_pos e]
      refine tcL_dead (P := fun t => t.1 = s.1 ∧ t.2.2 = s.2.2 ∧ ∀ x, x < i → t.2.1 x = s.2.1 x) (a := fr + 1) (fun c t hc ht => ?_) _ _ _ (Nat.le_refl _) ⟨rfl, rfl, fun _ _ => rfl⟩
      obtain ⟨a1, a2, a3⟩ := tc_dead j (i + 1) c (sum + zoQ w fr (c - 1)) (t.1, up t.2.1 i (nI c), t.2.2) (by omega)
      exact ⟨a1.trans ht.1, a2.trans ht.2.1, fun x hx => (a3 x (by omega)).trans ((up_n (by omega)).trans (ht.2.2 x hx))⟩
    · rw [if_neg e]; exact ⟨rfl, rfl, fun _ _ => rfl⟩
theorem tcL_sim {R R' : Nat → zS → zS} {P : zS → zS → Prop} {a G : Nat} (hG : G ≤ F) (h : ∀ c s t, a ≤ c → c < G → P s t → P (R c s) (R' c t)) (hd : ∀ c s t, G ≤ c → a ≤ c → c < F → P s t → P s (R' c t)) : ∀ (k c : Nat) (s t : zS), a ≤ c → P s t → P (tcL R G k c s) (tcL R' F k c t)
  | 0, _, _, _, _, h0 => h0
  | k + 1, c, s, t, hc, h0 => by
    rw [tcL, tcL]
    by_cases e : c < G
    · rw [if_pos e, if_pos (show c < F by omega)]
      exact tcL_sim hG h hd k (c + 1) _ _ (by omega) (h c s t hc e h0)
    · rw [if_neg e]
      by_cases e2 : c < F
      · rw [if_pos e2]
        have hs : s = tcL R G k (c + 1) s := by
          cases k with
          | zero => rfl
          | succ k => rw [tcL, if_neg (by omega)]
        have := tcL_sim hG h hd k (c + 1) s (R' c t) (by omega) (hd c s t (by omega) hc e2 h0)
        rw [← hs] at this
        exact this
      · rw [if_neg e2]; exact h0
/-- class and reference find the same -/
theorem cu_tc (hk : kk ≤ 3) : ∀ (j i fr : Nat) (sum : Int32) (s t : zS), i + j = kk → zA i s t → (s.1 = -1 ∨ sum < s.1) → zA i (cuR w F j i fr sum s) (tcR w F kk j i fr sum t) ∧ (zB kk s t ∨ (s.1 = -1 ∧ fr + j < F) → zB kk (cuR w F j i fr sum s) (tcR w F kk j i fr sum t))
  | 0, i, fr, sum, s, t, hi, ⟨h1, h2⟩, hp => by
    rw [tcR, cuR, ← h1, if_pos hp]
    by_cases e : s.1 = -1 ∨ sum + zoQ w fr (F - 1) < s.1
    · rw [if_pos e, if_pos e]
      refine ⟨⟨rfl, h2⟩, fun _ x hx => ?_⟩
      show (if x < 3 then s.2.1 x else s.2.2 x) = (if x < kk then t.2.1 x else t.2.2 x)
      rw [if_pos (by omega), if_pos hx]
      exact h2 x (by omega)
    · rw [if_neg e, if_neg e]
      refine ⟨⟨h1, h2⟩, fun h => ?_⟩
      rcases h with h | h
      · exact h
      · exact absurd (Or.inl h.1) e
  | j + 1, i, fr, sum, s, t, hi, ⟨h1, h2⟩, hp => by
    rw [tcR, cuR, ← h1, if_pos hp]
    have step : ∀ c (s t : zS), zA i s t → zA i (if s.1 = -1 ∨ sum + zoQ w fr (c - 1) < s.1 then cuR w F j (i + 1) c (sum + zoQ w fr (c - 1)) (s.1, up s.2.1 i (nI c), s.2.2) else (s.1, up s.2.1 i (nI c), s.2.2)) (tcR w F kk j (i + 1) c (sum + zoQ w fr (c - 1)) (t.1, up t.2.1 i (nI c), t.2.2)) ∧ (zB kk s t ∨ (s.1 = -1 ∧ c + j < F) → zB kk (if s.1 = -1 ∨ sum + zoQ w fr (c - 1) < s.1 then cuR w F j (i + 1) c (sum + zoQ w fr (c - 1)) (s.1, up s.2.1 i (nI c), s.2.2) else (s.1, up s.2.1 i (nI c), s.2.2)) (tcR w F kk j (i + 1) c (sum + zoQ w fr (c - 1)) (t.1, up t.2.1 i (nI c), t.2.2))) := by
      intro c s t hz
      have hz1 : zA (i + 1) (s.1, up s.2.1 i (nI c), s.2.2) (t.1, up t.2.1 i (nI c), t.2.2) := ⟨hz.1, fun x hx => by
        show up s.2.1 i (nI c) x = up t.2.1 i (nI c) x
        by_cases e : x = i
        · subst e; rw [up_s, up_s]
        · rw [up_n e, up_n e]; exact hz.2 x (by omega)⟩
      by_cases e : s.1 = -1 ∨ sum + zoQ w fr (c - 1) < s.1
      · rw [if_pos e]
        obtain ⟨a1, a2⟩ := cu_tc hk j (i + 1) c (sum + zoQ w fr (c - 1)) _ _ (by omega) hz1 e
        exact ⟨⟨a1.1, fun x hx => a1.2 x (by omega)⟩, fun h => a2 h⟩
      · rw [if_neg e]
        have hn : ¬ (t.1 = -1 ∨ sum + zoQ w fr (c - 1) < t.1) := by rw [← hz.1]; exact e
        have ht : tcR w F kk j (i + 1) c (sum + zoQ w fr (c - 1)) (t.1, up t.2.1 i (nI c), t.2.2) = (t.1, up t.2.1 i (nI c), t.2.2) := by
          cases j with
          | zero => rw [tcR, if_neg hn]
          | succ j => rw [tcR, if_neg hn]
        rw [ht]
        refine ⟨⟨hz.1, fun x hx => hz1.2 x (by omega)⟩, fun h => ?_⟩
        rcases h with h | h
        · exact h
        · exact absurd (Or.inl h.1) e
    have dead : ∀ c (s t : zS), F - j ≤ c → fr + 1 ≤ c → c < F → (zA i s t → zA i s (tcR w F kk j (i + 1) c (sum + zoQ w fr (c - 1)) (t.1, up t.2.1 i (nI c), t.2.2))) ∧ (zB kk s t → zB kk s (tcR w F kk j (i + 1) c (sum + zoQ w fr (c - 1)) (t.1, up t.2.1 i (nI c), t.2.2))) := by
      intro c s t hc hc1 hcF
      cases j with
      | zero => omega
      | succ j =>
        obtain ⟨b1, b2, b3⟩ := tc_dead (w := w) (F := F) (kk := kk) j (i + 1) c (sum + zoQ w fr (c - 1)) (t.1, up t.2.1 i (nI c), t.2.2) (by omega)
        refine ⟨fun hz => ⟨hz.1.trans b1.symm, fun x hx => (hz.2 x hx).trans ((up_n (show x ≠ i by omega)).symm.trans (b3 x (by omega)).symm)⟩, fun hz x hx => ?_⟩
        rw [b2]; exact hz x hx
    refine ⟨tcL_sim (P := zA i) (a := fr + 1) (G := F - j) (by omega) (fun c s t _ _ hz => (step c s t hz).1) (fun c s t hc hc1 hcF hz => (dead c s t hc hc1 hcF).1 hz) _ _ _ _ (Nat.le_refl _) ⟨h1, h2⟩, fun h => ?_⟩
    by_cases hb : zB kk s t
    · exact (tcL_sim (P := fun s t => zA i s t ∧ zB kk s t) (a := fr + 1) (G := F - j) (by omega) (fun c s t _ _ hz => ⟨(step c s t hz.1).1, (step c s t hz.1).2 (Or.inl hz.2)⟩) (fun c s t hc hc1 hcF hz => ⟨(dead c s t hc hc1 hcF).1 hz.1, (dead c s t hc hc1 hcF).2 hz.2⟩) _ _ _ _ (Nat.le_refl _) ⟨⟨h1, h2⟩, hb⟩).2
    · have h : s.1 = -1 ∧ fr + (j + 1) < F := by rcases h with h | h; exact absurd h hb; exact h
      cases hfk : F - fr with
      | zero => omega
      | succ k =>
        rw [tcL, tcL, if_pos (show fr + 1 < F - j by omega), if_pos (show fr + 1 < F by omega)]
        have s0 := step (fr + 1) s t ⟨h1, h2⟩
        exact (tcL_sim (P := fun s t => zA i s t ∧ zB kk s t) (a := fr + 1) (G := F - j) (by omega) (fun c s t _ _ hz => ⟨(step c s t hz.1).1, (step c s t hz.1).2 (Or.inl hz.2)⟩) (fun c s t hc hc1 hcF hz => ⟨(dead c s t hc hc1 hcF).1 hz.1, (dead c s t hc hc1 hcF).2 hz.2⟩) _ _ _ _ (by omega) ⟨s0.1, s0.2 (Or.inr ⟨h.1, by omega⟩)⟩).2
theorem zoL_cg {v w : Nat → Int32} {b : Nat} (h : ∀ i, i ≤ b → v (740 + i) = w (740 + i)) : ∀ (k i : Nat) (x : Int32), zoL v b k i x = zoL w b k i x
  | 0, _, _ => rfl
  | k + 1, i, x => by
    rw [zoL, zoL]
    by_cases e : i ≤ b
    · rw [if_pos e, if_pos e, h i e, zoL_cg h k]
    · rw [if_neg e, if_neg e]
theorem Rl_zo {n nC a b : Nat} {v w : Nat → Int32} (h : Rl n nC v w) (hb : b < 80) (hC : 0 < nC) : zoQ v a b = zoQ w a b := by
  unfold zoQ
  rw [zoL_cg (fun i hi => h.g1 (by omega)), h.c1 hC (show 7 < 20 by decide), h.c1 hC (show 8 < 20 by decide)]
end P01
section P02
variable {v w : Nat → Int32} {n nC F : Nat}
theorem tcL_cg {R R' : Nat → zS → zS} {G : Nat} (h : ∀ c s, c < G → R c s = R' c s) : ∀ (k c : Nat) (s : zS), tcL R G k c s = tcL R' G k c s
  | 0, _, _ => rfl
  | k + 1, c, s => by
    rw [tcL, tcL]
    by_cases e : c < G
    · rw [if_pos e, if_pos e, h c s e, tcL_cg h k]
    · rw [if_neg e, if_neg e]
theorem cuR_cg (h : Rl n nC v w) (hF : F ≤ 80) (hC : 0 < nC) : ∀ (j i fr : Nat) (sum : Int32) (s : zS), cuR v F j i fr sum s = cuR w F j i fr sum s
  | 0, i, fr, sum, s => by
    rw [cuR, cuR, Rl_zo h (show F - 1 < 80 by omega) hC]
  | j + 1, i, fr, sum, s => by
    rw [cuR, cuR]
    refine tcL_cg (fun c s hc => ?_) _ _ _
    rw [Rl_zo h (show c - 1 < 80 by omega) hC, cuR_cg h hF hC j]
theorem zn_law {S T : tT} {x1 x2 : Int32} (h : Rl n nC v w) (hF : F ≤ 80) : znK S v F nC x1 x2 = (znQ T w F nC x1 x2).1 := by
  unfold znK znQ
  by_cases h1 : nI 1 ≤ x1 ∧ x1 ≤ nI 3
  · rw [if_pos h1, if_pos h1]
    obtain ⟨m, m1, m2, rfl⟩ := nI_between (by decide) h1 (by decide)
    rw [nI_clamp (by omega)]
    by_cases h2 : F < m + 2
    · rw [if_pos h2, if_pos h2]
    · rw [if_neg h2, if_neg h2]
      by_cases h3 : nC = 0
      · rw [if_pos h3, if_pos h3]
      · rw [if_neg h3, if_neg h3]
        by_cases h4 : x2 = 0 ∨ (nI 10 ≤ x2 ∧ x2 ≤ nI (9 + m))
        · rw [if_pos h4, if_pos h4]
          show znR x2 (znE S v F m) = znR x2 (znS T w F m)
          unfold znR znE znS
          rw [cuR_cg h hF (by omega)]
          obtain ⟨a1, a2⟩ := cu_tc (w := w) (F := F) m2 m 0 1 (nI 0) (-1, S 241, S 242) (-1, T 15, T 16) (by omega) ⟨rfl, fun _ h => absurd h (Nat.not_lt_zero _)⟩ (Or.inl rfl)
          by_cases e : x2 = 0
          · rw [if_pos e, if_pos e]; exact a1.1
          · rw [if_neg e, if_neg e]
            have h5 : nI 10 ≤ x2 ∧ x2 ≤ nI (9 + m) := by rcases h4 with h4 | h4; exact absurd h4 e; exact h4
            obtain ⟨y, y1, y2, rfl⟩ := nI_between (by omega) h5 (by decide)
            rw [nI_clamp (by omega)]
            exact a2 (Or.inr ⟨rfl, by omega⟩) _ (by omega)
        · rw [if_neg h4, if_neg h4]
  · rw [if_neg h1, if_neg h1]
end P02
