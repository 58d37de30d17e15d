set_option maxRecDepth 100000
/-! ===== mornings: class and reference ===== -/
section P13
variable {v w : Nat → Int32} {n nC f N : Nat}
/-- what a morning leaves as it is -/
def Sd (nC i : Nat) : Prop := i < 2 ∨ (5 ≤ i ∧ i < 10) ∨ (100 ≤ i ∧ i < 420) ∨ (740 ≤ i ∧ i < 820) ∨ 1300 ≤ i ∨ ∃ c, c < nC ∧ ∃ k, 6 ≤ k ∧ k < 20 ∧ i = 10 + 20 * c + k
def St (nC : Nat) (v w : Nat → Int32) : Prop := ∀ i, Sd nC i → v i = w i
theorem Rl.St0 (h : Rl n nC v w) : St nC v w := fun i hi => by
  rcases hi with hi | hi | hi | hi | hi | ⟨c, hc, k, k1, k2, rfl⟩
  · exact h.g1 (by omega)
  · exact h.g1 (by omega)
  · exact h.g1 (by omega)
  · exact h.g1 (by omega)
  · exact h.g1 (by omega)
  · exact h.c1 hc k2
theorem oo2_at {q : Nat} : ∀ (k i : Nat) (w : Nat → Int32), 740 < i + k → i ≤ q → q < 740 → oo2 k i w q = nI 0
  | 0, i, w, h, h1, h2 => by omega
  | k + 1, i, w, h, h1, h2 => by
    rw [oo2, if_pos (by omega)]
    by_cases e : q = i
    · subst e; rw [oo2_fr _ _ _ (by omega), up_s]
    · exact oo2_at k (i + 1) _ (by omega) (by omega) h2
theorem oo1_lo {q : Nat} : ∀ (k c : Nat) (w : Nat → Int32), q < 10 + 20 * c → oo1 nC k c w q = w q
  | 0, _, _, _ => rfl
  | k + 1, c, w, h => by
    rw [oo1]
    by_cases e : c < nC
    · rw [if_pos e, oo1_lo k (c + 1) _ (by omega), up_n (by omega), up_n (by omega)]
    · rw [if_neg e]
theorem oo1_45 : ∀ (k c : Nat) (w : Nat → Int32), nC < c + k → ∀ d, c ≤ d → d < nC → oo1 nC k c w (10 + 20 * d + 4) = nI 0 ∧ oo1 nC k c w (10 + 20 * d + 5) = -1
  | 0, c, w, h, d, h1, h2 => by omega
  | k + 1, c, w, h, d, h1, h2 => by
    rw [oo1, if_pos (by omega)]
    by_cases e : d = c
    · subst e
      rw [oo1_lo _ _ _ (by omega), oo1_lo _ _ _ (by omega), up_n (by omega), up_s, up_s]
      exact ⟨rfl, rfl⟩
    · exact oo1_45 k (c + 1) _ (by omega) d (by omega) h2
theorem pkW_lo {q : Nat} : ∀ (k c : Nat) (w : Nat → Int32), q < 10 + 20 * c → pkW nC k c w q = w q
  | 0, _, _, _ => rfl
  | k + 1, c, w, h => by
    rw [pkW]
    by_cases e : c < nC
    · rw [if_pos e, pkW_lo k (c + 1) _ (by omega), up_n (by omega), up_n (by omega), up_n (by omega), up_n (by omega)]
    · rw [if_neg e]
theorem pkW_3 : ∀ (k c : Nat) (w : Nat → Int32), nC < c + k → ∀ d, c ≤ d → d < nC → pkW nC k c w (10 + 20 * d + 3) = nI 0
  | 0, c, w, h, d, h1, h2 => by omega
  | k + 1, c, w, h, d, h1, h2 => by
    rw [pkW, if_pos (by omega)]
    by_cases e : d = c
    · subst e
      rw [pkW_lo _ _ _ (by omega), up_s]
    · exact pkW_3 k (c + 1) _ (by omega) d (by omega) h2
theorem mo0_car {rule : Int32} (hC : nC ≤ 4) {d k : Nat} (hd : d < nC) (hk : k < 6) : mo0 nC rule w (10 + 20 * d + k) = if k = 0 then w (10 + 20 * d + 10) else if k = 5 then -1 else nI 0 := by
  unfold mo0
  have fr4 : ∀ j, 4 ≤ j → j < 20 → ∀ (x : Nat → Int32), pkW nC (nC + 1) 0 x (10 + 20 * d + j) = x (10 + 20 * d + j) := fun j h1 h2 x => pkW_fr (fun c hc i hi => by omega) _ _ _
  obtain ⟨p0, p1, p2⟩ := pkW_at hC (nC + 1) 0 (oo2 321 420 (oo1 nC (nC + 1) 0 (up (up (up w 2 (nI 0)) 3 (nI 0)) 4 rule))) (by omega) d (by omega) hd
  have p3 := pkW_3 (nC + 1) 0 (oo2 321 420 (oo1 nC (nC + 1) 0 (up (up (up w 2 (nI 0)) 3 (nI 0)) 4 rule))) (by omega) d (by omega) hd
  obtain ⟨o4, o5⟩ := oo1_45 (nC + 1) 0 (up (up (up w 2 (nI 0)) 3 (nI 0)) 4 rule) (by omega) d (by omega) hd
  rcases (show k = 0 ∨ k = 1 ∨ k = 2 ∨ k = 3 ∨ k = 4 ∨ k = 5 by omega) with e | e | e | e | e | e <;> subst e
  · rw [p0, if_pos rfl, oo2_fr _ _ _ (by omega), oo1_fr (fun c hc => by omega), up_n (by omega), up_n (by omega), up_n (by omega)]
  · rw [p1]; rfl
  · rw [p2]; rfl
  · rw [p3]; rfl
  · rw [fr4 4 (by omega) (by omega), oo2_fr _ _ _ (by omega), o4]; rfl
  · rw [fr4 5 (by omega) (by omega), oo2_fr _ _ _ (by omega), o5]; rfl
theorem mo0_Sd {rule : Int32} (hC : nC ≤ 4) {i : Nat} (hi : Sd nC i) : mo0 nC rule w i = w i := by
  refine mo0_fr ?_ (fun c hc j hj => ?_) ?_
  · rcases hi with hi | hi | hi | hi | hi | ⟨c, hc, k, k1, k2, rfl⟩ <;> omega
  · rcases hi with hi | hi | hi | hi | hi | ⟨c, hc, k, k1, k2, rfl⟩ <;> omega
  · rcases hi with hi | hi | hi | hi | hi | ⟨c, hc, k, k1, k2, rfl⟩ <;> omega
theorem mo0_3 {rule : Int32} : mo0 nC rule w 3 = nI 0 := by
  unfold mo0
  rw [pkW_fr (fun c hc j hj => by omega), oo2_fr _ _ _ (by omega), oo1_fr (fun c hc => by omega), up_n (by omega), up_s]
theorem mo0_Rl {rule : Int32} (hC : nC ≤ 4) (h : St nC v w) : Rl 0 nC (mo0 nC rule v) (mo0 nC rule w) := by
  refine ⟨fun i hi => ?_, fun c hc k hk => ?_, fun p hp => by omega, fun p hp => by omega⟩
  · by_cases e : Sd nC i
    · rw [mo0_Sd hC e, mo0_Sd hC e]; exact h i e
    · by_cases e2 : 420 ≤ i ∧ i < 740
      · have z : ∀ x : Nat → Int32, mo0 nC rule x i = nI 0 := fun x => by
          unfold mo0
          rw [pkW_fr (fun c hc j hj => by omega)]
          exact oo2_at _ _ _ (by omega) e2.1 e2.2
        rw [z, z]
      · have e3 : i = 2 ∨ i = 3 ∨ i = 4 := by
          rcases (show i = 2 ∨ i = 3 ∨ i = 4 ∨ (i < 2 ∨ (5 ≤ i ∧ i < 10) ∨ (100 ≤ i ∧ i < 420) ∨ (740 ≤ i ∧ i < 820) ∨ 1300 ≤ i) by omega) with q | q | q | q
          · exact Or.inl q
          · exact Or.inr (Or.inl q)
          · exact Or.inr (Or.inr q)
          · refine absurd ?_ e
            rcases q with q | q | q | q | q
            · exact Or.inl q
            · exact Or.inr (Or.inl q)
            · exact Or.inr (Or.inr (Or.inl q))
            · exact Or.inr (Or.inr (Or.inr (Or.inl q)))
            · exact Or.inr (Or.inr (Or.inr (Or.inr (Or.inl q))))
        rcases e3 with q | q | q <;> subst q
        · rw [mo0_2.1, mo0_2.1]
        · rw [mo0_3, mo0_3]
        · rw [mo0_2.2, mo0_2.2]
  · by_cases e : k < 6
    · rw [mo0_car hC hc e, mo0_car hC hc e, h (10 + 20 * c + 10) (Or.inr (Or.inr (Or.inr (Or.inr (Or.inr ⟨c, hc, 10, by omega, by omega, rfl⟩)))))]
    · have s : Sd nC (10 + 20 * c + k) := Or.inr (Or.inr (Or.inr (Or.inr (Or.inr ⟨c, hc, k, by omega, hk, rfl⟩))))
      rw [mo0_Sd hC s, mo0_Sd hC s]; exact h _ s
theorem cm_Rl {m : Nat} {a b c : Int32} (h : Rl m nC v w) (hm : m < 60) : Rl (m + 1) nC (cmW v m a b c) (cmW w m a b c) := by
  have key : ∀ i, ((∀ k, k < 7 → i ≠ 820 + 8 * m + k) → v i = w i) → cmW v m a b c i = cmW w m a b c i := fun i hi => by
    unfold cmW
    refine up_cg (fun _ => up_cg (fun h6 => up_cg (fun h5 => up_cg (fun h4 => up_cg (fun h3 => up_cg (fun h2 => up_cg (fun h1 => up_cg (fun h0 => hi (fun k hk => ?_)))))))))
    omega
  have pw : ∀ p k, k < 8 → p ≠ m → cmW w m a b c (820 + 8 * p + k) = w (820 + 8 * p + k) := fun p k hk hp => by
    unfold cmW
    rw [up_n (by omega), up_n (by omega), up_n (by omega), up_n (by omega), up_n (by omega), up_n (by omega), up_n (by omega), up_n (by omega)]
  refine ⟨fun i hi => key i (fun _ => h.g1 hi), fun d hd k hk => key _ (fun _ => h.c1 hd hk), fun p hp k hk => key _ (fun e => ?_), fun p hp => ⟨fun z => key _ (fun e => ?_), fun z => key _ (fun e => ?_)⟩⟩
  · by_cases ep : p = m
    · subst ep; exact absurd rfl (e k (by omega))
    · exact h.p1 (by omega) hk
  · by_cases ep : p = m
    · subst ep; exact absurd rfl (e 5 (by omega))
    · rw [pw p 3 (by omega) ep] at z
      exact (h.2.2.2 p (by omega)).1 z
  · by_cases ep : p = m
    · subst ep; exact absurd rfl (e 6 (by omega))
    · rw [pw p 3 (by omega) ep] at z
      exact (h.2.2.2 p (by omega)).2 z
theorem mo_Rl {m q r : Nat} (hC : nC ≤ 4) (h : St nC v w) : Rl (moN m) nC (moW f nC m q r v) (moW f nC m q r w) := by
  have h0 := mo0_Rl (rule := nI r) hC h
  unfold moW moN
  by_cases e : m = 2
  · rw [if_pos e, if_pos e, if_pos e]
    exact cm_Rl (cm_Rl h0 (by omega)) (by omega)
  · rw [if_neg e, if_neg e, if_neg e]
    exact cm_Rl h0 (by omega)
theorem cmW_Sd {m i : Nat} {a b c : Int32} (hm : m < 60) (hC : nC ≤ 4) (hi : Sd nC i) : cmW w m a b c i = w i := by
  have h : i ≠ 2 ∧ (i < 820 ∨ 1300 ≤ i) := by
    rcases hi with hi | hi | hi | hi | hi | ⟨c, hc, k, k1, k2, rfl⟩ <;> omega
  unfold cmW
  rw [up_n h.1, up_n (by omega), up_n (by omega), up_n (by omega), up_n (by omega), up_n (by omega), up_n (by omega), up_n (by omega)]
theorem mo_Sd {m q r i : Nat} (hC : nC ≤ 4) (hi : Sd nC i) : moW f nC m q r w i = w i := by
  unfold moW lcW
  split
  · rw [cmW_Sd (by omega) hC hi, cmW_Sd (by omega) hC hi, mo0_Sd hC hi]
  · rw [cmW_Sd (by omega) hC hi, mo0_Sd hC hi]
theorem moN_le {m : Nat} : moN m ≤ 60 := by unfold moN; split <;> omega
theorem moE_P {T : tT} {ps m q r : Nat} (h28 : T 0 28 = 0) (h29 : T 0 29 = -1) : moE T ps f nC m q r w = moP w f nC m q r := by
  unfold moE moP
  rw [sdW_0 moN_le h28 h29]
theorem moP_Sd {T : tT} {ps m q r i : Nat} (hB : BI w f nC) (hr : r < 3) (hf2 : 2 ≤ f) (hps : ps < 80) (hq : m = 2 → q < f * (f - 1) * (f * (f - 1))) (hi : Sd nC i) : (moE T ps f nC m q r w).1 i = w i := by
  obtain ⟨hW, hb⟩ := moW_WS (m := m) (q := q) hB hr hf2 hq
  have hC := hB.1.2
  unfold moE
  rw [edW_fr hb hps ?_ _ _ _ hW, mo_Sd hC hi]
  refine ⟨?_, fun c hc k hk => ?_, ?_, fun p hp => ?_⟩
  · rcases hi with hi | hi | hi | hi | hi | ⟨c, hc, k, k1, k2, rfl⟩ <;> omega
  · rcases hi with hi | hi | hi | hi | hi | ⟨c, hc, k, k1, k2, rfl⟩ <;> omega
  · rcases hi with hi | hi | hi | hi | hi | ⟨c, hc, k, k1, k2, rfl⟩ <;> omega
  · have := moN_le (m := m)
    rcases hi with hi | hi | hi | hi | hi | ⟨c, hc, k, k1, k2, rfl⟩ <;> omega
theorem BI_St {w' : Nat → Int32} (hB : BI w f nC) (h : ∀ i, Sd nC i → w' i = w i) : BI w' f nC := BI_fr hB (fun i hi => h i (by
  rcases hi with hi | hi | hi | ⟨c, hc, hi⟩
  · exact Or.inl (by omega)
  · exact Or.inl (by omega)
  · exact Or.inr (Or.inr (Or.inr (Or.inr (Or.inl hi))))
  · exact Or.inr (Or.inr (Or.inr (Or.inr (Or.inr ⟨c, hc, 10, by omega, by omega, hi⟩))))))
theorem moR_St {T : tT} {ps m q r : Nat} (hB : BI w f nC) (h : St nC v w) (hr : r < 3) (hf2 : 2 ≤ f) (hq : m = 2 → q < f * (f - 1) * (f * (f - 1))) (h28 : T 0 28 = 0) (h29 : T 0 29 = -1) : moR v f nC m q r = moQ T ps f nC m q r w := by
  obtain ⟨hW, hb⟩ := moW_WS (m := m) (q := q) hB hr hf2 hq
  have hC := hB.1.2
  have en : nlW v r = nlW w r := by unfold nlW wN; rw [h (1300 + r) (Or.inr (Or.inr (Or.inr (Or.inr (Or.inl (by omega))))))]
  obtain ⟨a1, a2⟩ := edW_Rl (tr := none) (pr := -1) (ps := 0) (nl := nlW w r) (wi := 1000) hb (by omega) 1001 0 _ _ hW (mo_Rl hC h)
  have e1 : (moP v f nC m q r).1 = (edW (secW none (-1) 0 (moN m) f r (nlW w r) nC) (moN m) 1000 1001 0 (moW f nC m q r v)).1 := by unfold moP; rw [en]
  have e2 : (moP w f nC m q r).1 = (edW (secW none (-1) 0 (moN m) f r (nlW w r) nC) (moN m) 1000 1001 0 (moW f nC m q r w)).1 := rfl
  rw [← e1, ← e2] at a1
  unfold moR moQ
  rw [moE_P h28 h29, a1.cs1 3]
  by_cases c : cnt (stp (moP w f nC m q r).1 3) (moN m) = moN m
  · rw [if_pos c, if_pos c, ovW_Rl a1 c]
  · rw [if_neg c, if_neg c]
theorem mn_L {T : tT} {ps m a b all : Nat} (ha : a < 3) (hb : b < 3) (hf2 : 2 ≤ f) (hps : ps < 80) (hq : m = 2 → all = f * (f - 1) * (f * (f - 1))) (h28 : T 0 28 = 0) (h29 : T 0 29 = -1) : ∀ (k i : Nat) (w : Nat → Int32), BI w f nC → St nC v w → mnF v f nC m a b all k i = mnL T ps f nC m a b all k i w
  | 0, _, _, _, _ => rfl
  | k + 1, i, w, hB, h => by
    rw [mnF, mnL]
    by_cases e : i < all
    · have hqi : m = 2 → i < f * (f - 1) * (f * (f - 1)) := fun z => by rw [← hq z]; exact e
      rw [if_pos e, if_pos e]
      have f1 : ∀ j, Sd nC j → (moE T ps f nC m i a w).1 j = w j := fun j hj => moP_Sd hB ha hf2 hps hqi hj
      have hB1 := BI_St hB f1
      have h1 : St nC v (moE T ps f nC m i a w).1 := fun j hj => (h j hj).trans (f1 j hj).symm
      have f2 : ∀ j, Sd nC j → (moE T ps f nC m i b (moE T ps f nC m i a w).1).1 j = (moE T ps f nC m i a w).1 j := fun j hj => moP_Sd hB1 hb hf2 hps hqi hj
      rw [moR_St (T := T) (ps := ps) hB h ha hf2 hqi h28 h29, moR_St (T := T) (ps := ps) hB1 h1 hb hf2 hqi h28 h29]
      by_cases c : moQ T ps f nC m i b (moE T ps f nC m i a w).1 < moQ T ps f nC m i a w
      · rw [if_pos c, if_pos c]
      · rw [if_neg c, if_neg c]
        exact mn_L ha hb hf2 hps hq h28 h29 k (i + 1) _ (BI_St hB1 f2) (fun j hj => (h1 j hj).trans (f2 j hj).symm)
    · rw [if_neg e, if_neg e]
theorem mn_law {T : tT} {ps : Nat} {x1 x2 x3 x4 : Int32} (hB : BI w f nC) (h : Rl n nC v w) (hps : ps < 80) (h28 : T 0 28 = 0) (h29 : T 0 29 = -1) : mnC v f nC x1 x2 x3 x4 = mnQ T ps f nC x1 x2 x3 x4 w := by
  unfold mnC mnQ
  rw [hB.2.1]
  have hf := hB.1.1
  by_cases h1 : nI 0 ≤ x1 ∧ x1 ≤ nI 2
  · rw [if_pos h1, if_pos h1]
    obtain ⟨a, a1, a2, rfl⟩ := nI_between (by decide) h1 (by decide)
    by_cases h2 : nI 0 ≤ x2 ∧ x2 ≤ nI 2
    · rw [if_pos h2, if_pos h2]
      obtain ⟨b, b1, b2, rfl⟩ := nI_between (by decide) h2 (by decide)
      by_cases h3 : nI 1 ≤ x3 ∧ x3 ≤ nI 2
      · rw [if_pos h3, if_pos h3]
        obtain ⟨m, m1, m2, rfl⟩ := nI_between (by decide) h3 (by decide)
        by_cases h4 : nI 0 ≤ x4 ∧ x4 ≤ nI 1
        · rw [if_pos h4, if_pos h4]
          by_cases h5 : nI 2 ≤ nI f ∧ nI f ≤ nI 8
          · rw [if_pos h5, if_pos h5]
            have hf2 : 2 ≤ f := (nI_leI (by omega) (by omega)).mp h5.1
            rw [nI_clamp (n := a) (by omega), nI_clamp (n := b) (by omega), nI_clamp (n := m) (by omega)]
            by_cases h6 : x4.toNatClampNeg = 1
            · rw [if_pos h6, if_pos h6]
            · rw [if_neg h6, if_neg h6]
              exact mn_L (by omega) (by omega) hf2 hps (fun z => by unfold mnA; rw [if_neg (by omega)]) h28 h29 _ _ w hB h.St0
          · rw [if_neg h5, if_neg h5]
        · rw [if_neg h4, if_neg h4]
      · rw [if_neg h3, if_neg h3]
    · rw [if_neg h2, if_neg h2]
  · rw [if_neg h1, if_neg h1]
end P13
