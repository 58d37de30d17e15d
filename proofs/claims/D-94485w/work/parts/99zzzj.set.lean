set_option maxRecDepth 100000
/-! ===== what set leaves ===== -/
section P10
variable {v w : Nat → Int32} {n nC f N : Nat}
theorem toL_fr {c q : Nat} (hq : ∀ p, p < n → q ≠ 820 + 8 * p + 4) : ∀ (k i : Nat) (w : Nat → Int32), toL c n k i w q = w q
  | 0, _, _ => rfl
  | k + 1, i, w => by
    rw [toL]
    by_cases e : i < n
    · rw [if_pos e, toL_fr hq k]
      split
      · split
        · exact up_n (hq i e)
        · rfl
      · rfl
    · rw [if_neg e]
theorem toL_at {c p : Nat} (hp : p < n) : ∀ (k i : Nat) (w : Nat → Int32), n < i + k → toL c n k i w (820 + 8 * p + 4) = if i ≤ p ∧ w (820 + 8 * p + 3) = nI 1 ∧ w (820 + 8 * p + 4) = nI c then -1 else w (820 + 8 * p + 4)
  | 0, i, w, h => by rw [if_neg (fun z => by omega)]; rfl
  | k + 1, i, w, h => by
    rw [toL]
    by_cases e : i < n
    · rw [if_pos e, toL_at hp k (i + 1) _ (by omega)]
      by_cases ep : p = i
      · subst ep
        rw [if_neg (fun z => by omega)]
        by_cases e1 : w (820 + 8 * p + 3) = nI 1
        · rw [if_pos e1]
          by_cases e2 : w (820 + 8 * p + 4) = nI c
          · rw [if_pos e2, if_pos ⟨Nat.le_refl _, e1, e2⟩, up_s]
          · rw [if_neg e2, if_neg (fun z => e2 z.2.2)]
        · rw [if_neg e1, if_neg (fun z => e1 z.2.1)]
      · have e3 : ∀ j, j < 8 → (if w (820 + 8 * i + 3) = nI 1 then (if w (820 + 8 * i + 4) = nI c then up w (820 + 8 * i + 4) (-1) else w) else w) (820 + 8 * p + j) = w (820 + 8 * p + j) := by
          intro j hj
          split
          · split
            · exact up_n (by omega)
            · rfl
          · rfl
        rw [e3 3 (by omega), e3 4 (by omega)]
        by_cases c1 : i + 1 ≤ p ∧ w (820 + 8 * p + 3) = nI 1 ∧ w (820 + 8 * p + 4) = nI c
        · rw [if_pos c1, if_pos ⟨by omega, c1.2⟩]
        · rw [if_neg c1, if_neg (fun z => c1 ⟨by omega, z.2⟩)]
    · rw [if_neg e, if_neg (fun z => by omega)]
theorem toL_up {c j : Nat} {x : Int32} (hj : j < 820) : ∀ (k i : Nat) (w : Nat → Int32), toL c n k i (up w j x) = up (toL c n k i w) j x
  | 0, _, _ => rfl
  | k + 1, i, w => by
    rw [toL, toL]
    by_cases e : i < n
    · rw [if_pos e, if_pos e, ← toL_up hj k, up_n (show 820 + 8 * i + 3 ≠ j by omega), up_n (show 820 + 8 * i + 4 ≠ j by omega)]
      split
      · split
        · rw [up_comm (by omega)]
        · rfl
      · rfl
    · rw [if_neg e, if_neg e]
theorem toL_Rl {c : Nat} : ∀ (k i : Nat) (v w : Nat → Int32), Rl n nC v w → Rl n nC (toL c n k i v) (toL c n k i w)
  | 0, _, _, _, h => h
  | k + 1, i, v, w, h => by
    rw [toL, toL]
    by_cases e : i < n
    · rw [if_pos e, if_pos e, h.p1 e (show 3 < 5 by decide), h.p1 e (show 4 < 5 by decide)]
      refine toL_Rl k _ _ _ ?_
      split
      · split
        · exact h.up1 (fun p hp => by omega)
        · exact h
      · exact h
    · rw [if_neg e, if_neg e]; exact h
theorem CV_cg {w' : Nat → Int32} {c : Nat} (h : CV w c f) (e : ∀ k, (k < 3 ∨ k = 5) → w' (10 + 20 * c + k) = w (10 + 20 * c + k)) : CV w' c f := by
  unfold CV
  rw [e 0 (by omega), e 1 (by omega), e 2 (by omega), e 5 (by omega)]
  exact h
theorem nlW_up {i r : Nat} {x : Int32} (hi : i < 1300) : nlW (up w i x) r = nlW w r := nlW_fr (fun j hj => up_n (by omega))
/-- the row but for one place beside people -/
def upX (i f : Nat) (x : Int32) : Prop := (i = 4 → ∃ r, r < 3 ∧ x = nI r) ∧ (10 ≤ i → i < 90 → x = -1 ∨ ∃ a, a < f ∧ x = nI a) ∧ (740 ≤ i → ∃ a, a ≤ 99 ∧ x = nI a)
theorem JW_up {i : Nat} {x : Int32} (h : JW w n f nC N) (hi : i = 4 ∨ (10 ≤ i ∧ i < 90 ∧ (i - 10) % 20 = 5) ∨ (740 ≤ i ∧ i < 820)) (hx : upX i f x) : JW (up w i x) n f nC N := by
  obtain ⟨hG, hB, hW, ⟨hO, hN⟩, hU, hZ⟩ := h
  have hn := hG.1.1
  have hf := hG.1.2.1
  have hC := hG.1.2.2
  refine ⟨GI_fr hG ?_ (fun j hj => up_n ?_) (fun c hc => ?_), BI_fr hB (fun j hj => up_n ?_), fun j hj => ?_, ⟨hO.upl (by omega) (by omega), hN⟩, ⟨fun p hp => ?_, fun c hc => ?_⟩, fun j h1 h2 => (up_n (by omega)).trans (hZ j h1 h2)⟩
  · by_cases e : i = 4
    · subst e; rw [up_s]; exact hx.1 rfl
    · rw [up_n (Ne.symm e)]; exact hG.2.2.2.2.1
  · rcases hj with hj | hj | hj | hj | ⟨p, hp, hj⟩ <;> omega
  · have hcv := hG.2.2.2.2.2.2.1 c hc
    by_cases e : i = 10 + 20 * c + 5
    · subst e
      obtain ⟨a1, a2, a3, -⟩ := hcv
      unfold CV
      rw [up_n (show 10 + 20 * c + 0 ≠ 10 + 20 * c + 5 by omega), up_n (show 10 + 20 * c + 1 ≠ 10 + 20 * c + 5 by omega), up_n (show 10 + 20 * c + 2 ≠ 10 + 20 * c + 5 by omega), up_s]
      exact ⟨a1, a2, a3, hx.2.1 (by omega) (by omega)⟩
    · exact CV_cg hcv (fun k hk => up_n (by omega))
  · rcases hj with hj | hj | hj | ⟨c, hc, hj⟩ <;> omega
  · by_cases e : 740 + j = i
    · subst e; rw [up_s]; exact hx.2.2 (by omega)
    · rw [up_n e]; exact hW j hj
  · rw [up_n (by omega), up_n (by omega)]; exact hU.1 p hp
  · rw [up_n (by omega), up_n (by omega), up_n (by omega), up_n (by omega)]
    intro eo
    refine ⟨(hU.2 c hc eo).1, fun p hp => ?_⟩
    rw [up_n (by omega), up_n (by omega)]
    exact (hU.2 c hc eo).2 p hp
theorem JW_in {c : Nat} (h : JW w n f nC N) (hc : c < nC) : JW (up w (10 + 20 * c + 4) (nI 0)) n f nC N := by
  obtain ⟨hG, hB, hW, ⟨hO, hN⟩, hU, hZ⟩ := h
  have hn := hG.1.1
  have hf := hG.1.2.1
  have hC := hG.1.2.2
  refine ⟨GI_fr hG ?_ (fun j hj => up_n ?_) (fun d hd => CV_cg (hG.2.2.2.2.2.2.1 d hd) (fun k hk => up_n (by omega))), BI_fr hB (fun j hj => up_n ?_), fun j hj => ?_, ⟨hO.upl (by omega) (by omega), hN⟩, ⟨fun p hp => ?_, fun d hd => ?_⟩, fun j h1 h2 => (up_n (by omega)).trans (hZ j h1 h2)⟩
  · rw [up_n (by omega)]; exact hG.2.2.2.2.1
  · rcases hj with hj | hj | hj | hj | ⟨p, hp, hj⟩ <;> omega
  · rcases hj with hj | hj | hj | ⟨d, hd, hj⟩ <;> omega
  · rw [up_n (by omega)]; exact hW j hj
  · rw [up_n (by omega), up_n (by omega)]; exact hU.1 p hp
  · by_cases e : d = c
    · subst e; rw [up_s]; intro z; exact absurd z (by decide)
    · rw [up_n (by omega), up_n (by omega), up_n (by omega), up_n (by omega)]
      intro eo
      refine ⟨(hU.2 d hd eo).1, fun p hp => ?_⟩
      rw [up_n (by omega), up_n (by omega)]
      exact (hU.2 d hd eo).2 p hp
theorem OI_toL {c : Nat} : ∀ (k i : Nat) (w : Nat → Int32), OI w n N → OI (toL c n k i w) n N
  | 0, _, _, h => h
  | k + 1, i, w, h => by
    rw [toL]
    by_cases e : i < n
    · rw [if_pos e]
      refine OI_toL k _ _ ?_
      split
      · split
        · exact h.up1 (by omega) (fun p hp => by omega)
        · exact h
      · exact h
    · rw [if_neg e]; exact h
def ouW (w : Nat → Int32) (c n : Nat) : Nat → Int32 := up (tkW w c n) (10 + 20 * c + 4) (nI 1)
theorem tk_eq {c : Nat} (hc : c < 4) : tkW w c n = up (up (up (toL c n (n + 1) 0 w) (10 + 20 * c + 1) (nI 0)) (10 + 20 * c + 2) (nI 0)) (10 + 20 * c + 3) (nI 0) := by
  unfold tkW
  rw [toL_up (by omega), toL_up (by omega), toL_up (by omega)]
theorem JW_out {c : Nat} (h : JW w n f nC N) (hc : c < nC) : JW (ouW w c n) n f nC N := by
  obtain ⟨hG, hB, hW, ⟨hO, hN⟩, hU, hZ⟩ := h
  have hn := hG.1.1
  have hf := hG.1.2.1
  have hC := hG.1.2.2
  unfold ouW
  rw [tk_eq (by omega)]
  have fr : ∀ j, (∀ k, 1 ≤ k → k ≤ 4 → j ≠ 10 + 20 * c + k) → (∀ p, p < n → j ≠ 820 + 8 * p + 4) → up (up (up (up (toL c n (n + 1) 0 w) (10 + 20 * c + 1) (nI 0)) (10 + 20 * c + 2) (nI 0)) (10 + 20 * c + 3) (nI 0)) (10 + 20 * c + 4) (nI 1) j = w j := fun j h1 h2 => by
    rw [up_n (h1 4 (by omega) (by omega)), up_n (h1 3 (by omega) (by omega)), up_n (h1 2 (by omega) (by omega)), up_n (h1 1 (by omega) (by omega)), toL_fr h2]
  have at4 : ∀ p, p < n → up (up (up (up (toL c n (n + 1) 0 w) (10 + 20 * c + 1) (nI 0)) (10 + 20 * c + 2) (nI 0)) (10 + 20 * c + 3) (nI 0)) (10 + 20 * c + 4) (nI 1) (820 + 8 * p + 4) = if w (820 + 8 * p + 3) = nI 1 ∧ w (820 + 8 * p + 4) = nI c then -1 else w (820 + 8 * p + 4) := fun p hp => by
    rw [up_n (by omega), up_n (by omega), up_n (by omega), up_n (by omega), toL_at hp _ _ _ (by omega)]
    by_cases z : w (820 + 8 * p + 3) = nI 1 ∧ w (820 + 8 * p + 4) = nI c
    · rw [if_pos ⟨by omega, z⟩, if_pos z]
    · rw [if_neg (fun t => z t.2), if_neg z]
  have frp : ∀ p k, p < n → k < 8 → k ≠ 4 → up (up (up (up (toL c n (n + 1) 0 w) (10 + 20 * c + 1) (nI 0)) (10 + 20 * c + 2) (nI 0)) (10 + 20 * c + 3) (nI 0)) (10 + 20 * c + 4) (nI 1) (820 + 8 * p + k) = w (820 + 8 * p + k) := fun p k hp hk hk4 => fr _ (fun _ _ _ => by omega) (fun _ _ => by omega)
  refine ⟨GI_fr hG ?_ (fun j hj => fr j ?_ ?_) (fun d hd => ?_), BI_fr hB (fun j hj => fr j ?_ ?_), fun j hj => ?_, ⟨((((OI_toL _ _ _ hO).upl (by omega) (by omega)).upl (by omega) (by omega)).upl (by omega) (by omega)).upl (by omega) (by omega), hN⟩, ⟨fun p hp => ?_, fun d hd => ?_⟩, fun j h1 h2 => (fr j (fun _ _ _ => by omega) (fun _ _ => by omega)).trans (hZ j h1 h2)⟩
  · rw [fr 4 (fun _ _ _ => by omega) (fun _ _ => by omega)]; exact hG.2.2.2.2.1
  · intro k _ _; rcases hj with hj | hj | hj | hj | ⟨p, hp, hj⟩ <;> omega
  · intro q _; rcases hj with hj | hj | hj | hj | ⟨p, hp, hj⟩ <;> omega
  · have hcv := hG.2.2.2.2.2.2.1 d hd
    by_cases e : d = c
    · subst e
      obtain ⟨a1, a2, a3, a4⟩ := hcv
      unfold CV
      rw [fr (10 + 20 * d + 0) (fun _ _ _ => by omega) (fun _ _ => by omega), fr (10 + 20 * d + 5) (fun _ _ _ => by omega) (fun _ _ => by omega), up_n (show 10 + 20 * d + 1 ≠ 10 + 20 * d + 4 by omega), up_n (show 10 + 20 * d + 1 ≠ 10 + 20 * d + 3 by omega), up_n (show 10 + 20 * d + 1 ≠ 10 + 20 * d + 2 by omega), up_s, up_n (show 10 + 20 * d + 2 ≠ 10 + 20 * d + 4 by omega), up_n (show 10 + 20 * d + 2 ≠ 10 + 20 * d + 3 by omega), up_s]
      exact ⟨a1, Or.inl rfl, fun z => absurd z (by decide), a4⟩
    · exact CV_cg hcv (fun k hk => fr _ (fun _ _ _ => by omega) (fun _ _ => by omega))
  · intro k _ _; rcases hj with hj | hj | hj | ⟨d, hd, hj⟩ <;> omega
  · intro q _; rcases hj with hj | hj | hj | ⟨d, hd, hj⟩ <;> omega
  · rw [fr _ (fun _ _ _ => by omega) (fun _ _ => by omega)]; exact hW j hj
  · rw [frp p 3 hp (by omega) (by omega), at4 p hp]
    intro z
    rw [if_neg (fun t => absurd (z.symm.trans t.1) (by decide))]
    exact hU.1 p hp z
  · by_cases e : d = c
    · subst e
      intro _
      refine ⟨⟨?_, ?_, ?_⟩, fun p hp => ?_⟩
      · rw [up_n (by omega), up_n (by omega), up_n (by omega), up_s]
      · rw [up_n (by omega), up_n (by omega), up_s]
      · rw [up_n (by omega), up_s]
      · rw [frp p 3 hp (by omega) (by omega), at4 p hp]
        intro z
        by_cases t : w (820 + 8 * p + 4) = nI d
        · rw [if_pos ⟨z, t⟩]; exact fun y => nI_nm (show d < 1000 by omega) y.symm
        · rw [if_neg (fun y => t y.2)]; exact t
    · have fc : ∀ k, k < 5 → up (up (up (up (toL c n (n + 1) 0 w) (10 + 20 * c + 1) (nI 0)) (10 + 20 * c + 2) (nI 0)) (10 + 20 * c + 3) (nI 0)) (10 + 20 * c + 4) (nI 1) (10 + 20 * d + k) = w (10 + 20 * d + k) := fun k hk => fr _ (fun _ _ _ => by omega) (fun _ _ => by omega)
      rw [fc 4 (by omega), fc 1 (by omega), fc 2 (by omega), fc 3 (by omega)]
      intro eo
      refine ⟨(hU.2 d hd eo).1, fun p hp => ?_⟩
      rw [frp p 3 hp (by omega) (by omega), at4 p hp]
      intro z
      split
      · exact fun y => nI_nm (show d < 1000 by omega) y.symm
      · exact (hU.2 d hd eo).2 p hp z
/-- a car that is out already -/
theorem tk_id {c : Nat} (hU : OU w n nC) (hc : c < nC) (hC : nC ≤ 4) (ho : w (10 + 20 * c + 4) = nI 1) : tkW w c n = w := by
  rw [tk_eq (by omega)]
  have ht : toL c n (n + 1) 0 w = w := by
    funext j
    by_cases hj : ∃ p, p < n ∧ j = 820 + 8 * p + 4
    · obtain ⟨p, hp, rfl⟩ := hj
      rw [toL_at hp _ _ _ (by omega), if_neg (fun z => (hU.2 c hc ho).2 p hp z.2.1 z.2.2)]
    · exact toL_fr (fun p hp z => hj ⟨p, hp, z⟩) _ _ _
  obtain ⟨⟨e1, e2, e3⟩, -⟩ := hU.2 c hc ho
  rw [ht, up_self e1, up_self e2, up_self e3]
end P10
