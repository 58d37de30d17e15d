set_option maxRecDepth 100000
/-! ===== what a second keeps (pure) ===== -/
theorem tO_lt {w : Nat → Int32} {n f c p t : Nat} (h : PI w n f) (hf : f ≤ 80) (hp : p < n) (e : tO w c p = some t) : t < f := by
  obtain ⟨a, b, h1, h2, h3, h4, -⟩ := h p hp
  unfold tO at e
  split at e
  · split at e
    · cases e; rw [h2, nI_clamp (by omega)]; exact h4
    · split at e
      · cases e; rw [h1, nI_clamp (by omega)]; exact h3
      · cases e
  · cases e
theorem dd_hi {u : Bool} {a t f : Nat} (ha : a < f) (ht : t < f) (h : dd u a t ≠ 0) : 0 < dd u a t ∧ dd u a t < hi u a f := by
  cases u with
  | true => simp only [dd, hi, ↓reduceIte] at h ⊢; omega
  | false => simp only [dd, hi, Bool.false_eq_true, ↓reduceIte] at h ⊢; omega
theorem nb1_in {w : Nat → Int32} {c a f n : Nat} {u : Bool} (hPI : PI w n f) (hf : f ≤ 80) (ha : a < f) : ∀ (k i : Nat) (b : Option Nat), (∀ q, b = some q → 0 < q ∧ q < hi u a f) → ∀ q, nb1 w c a u n k i b = some q → 0 < q ∧ q < hi u a f
  | 0, _, _, hb => hb
  | k + 1, i, b, hb => by
    simp only [nb1]
    split
    · rename_i h
      refine nb1_in hPI hf ha k (i + 1) _ ?_
      intro q hq
      cases ht : tO w c i with
      | none => rw [ht] at hq; exact hb q hq
      | some t =>
        rw [ht] at hq
        have htf := tO_lt hPI hf h ht
        simp only [stB] at hq
        split at hq
        · exact hb q hq
        · rename_i hd
          have h3 := dd_hi (u := u) ha htf hd
          cases b with
          | none => simp at hq; omega
          | some z =>
            simp only at hq
            split at hq
            · simp at hq; omega
            · exact hb q hq
    · exact hb
theorem nu2_in {w : Nat → Int32} {c a f : Nat} {u : Bool} {b : Option Nat} (hb : ∀ q, b = some q → 0 < q ∧ q < hi u a f) : ∀ (k q0 : Nat), 0 < q0 → ∀ q, nu2 w c a u f b k q0 = some q → 0 < q ∧ q < hi u a f
  | 0, _, _ => hb
  | k + 1, q0, h0 => by
    intro q h
    simp only [nu2] at h
    split at h
    · rename_i hlt
      cases b with
      | none =>
        simp only at h
        split at h
        · simp at h; omega
        · exact nu2_in hb k (q0 + 1) (by omega) q h
      | some z =>
        simp only at h
        split at h
        · split at h
          · simp at h; omega
          · exact nu2_in hb k (q0 + 1) (by omega) q h
        · exact hb q h
    · exact hb q h
theorem nrW_in {w : Nat → Int32} {c a f n : Nat} {u : Bool} (hPI : PI w n f) (hf : f ≤ 80) (ha : a < f) {q : Nat} (h : nrW w c a u f n = some q) : 0 < q ∧ q < hi u a f :=
  nu2_in (nb1_in hPI hf ha _ _ _ (fun q e => by cases e)) _ _ (by decide) q h
theorem fhW_at {w : Nat → Int32} {c n : Nat} : ∀ (k i : Nat), fhW w c n k i = -1 ∨ ∃ j, j < n ∧ fhW w c n k i = nI j ∧ w (820 + 8 * j + 1) = w (10 + 20 * c + 0)
  | 0, _ => Or.inl rfl
  | k + 1, i => by
    simp only [fhW]
    split
    · split
      · rename_i h1 h2
        exact Or.inr ⟨i, h1, rfl, h2.2.2⟩
      · exact fhW_at k (i + 1)
    · exact Or.inl rfl
/-- a way that can be gone from a -/
def Go (x : Int32) (a f : Nat) : Prop := x = 0 ∨ (x = nI 1 ∧ a + 1 < f) ∨ (x = -1 ∧ 0 < a)
theorem nI_lt' {a b : Nat} (ha : a < 80) (hb : b < 80) : nI a < nI b ↔ a < b := nI_ltI (by omega) (by omega)
theorem nwW_go {w : Nat → Int32} {c a f n : Nat} (hn : n ≤ 60) (hPI : PI w n f) (hf : f ≤ 80) (ha : a < f) (hfl : w (10 + 20 * c + 0) = nI a) (hh : w (10 + 20 * c + 5) = -1 ∨ ∃ h, h < f ∧ w (10 + 20 * c + 5) = nI h) : Go (nwW w c (fhW w c n (n + 1) 0) (nrW w c a true f n) (nrW w c a false f n)) a f := by
  unfold nwW
  split
  · have hu := fun q h => nrW_in (c := c) (u := true) hPI hf ha (q := q) h
    have hd := fun q h => nrW_in (c := c) (u := false) hPI hf ha (q := q) h
    generalize nrW w c a true f n = u at hu
    generalize nrW w c a false f n = dn at hd
    simp only [hi, ↓reduceIte, Bool.false_eq_true] at hu hd
    cases u with
    | none =>
      cases dn with
      | none =>
        simp only
        rcases hh with hh | ⟨h, h1, h2⟩
        · rw [if_pos hh]; exact Or.inl rfl
        · split
          · exact Or.inl rfl
          · split
            · exact Or.inl rfl
            · rename_i hne
              rw [h2, hfl] at hne ⊢
              split
              · rename_i hlt
                exact Or.inr (Or.inl ⟨rfl, by have := (nI_lt' (by omega) (by omega)).mp hlt; omega⟩)
              · rename_i hlt
                refine Or.inr (Or.inr ⟨rfl, ?_⟩)
                have h3 : ¬ a < h := fun z => hlt ((nI_lt' (by omega) (by omega)).mpr z)
                have h4 : h ≠ a := fun z => hne (by rw [z])
                omega
      | some y => exact Or.inr (Or.inr ⟨rfl, by have := hd y rfl; omega⟩)
    | some x =>
      have h1 := hu x rfl
      cases dn with
      | none => exact Or.inr (Or.inl ⟨rfl, by omega⟩)
      | some y =>
        have h2 := hd y rfl
        simp only
        split
        · exact Or.inr (Or.inr ⟨rfl, by omega⟩)
        · exact Or.inr (Or.inl ⟨rfl, by omega⟩)
  · rename_i hne
    rcases fhW_at (w := w) (c := c) (n := n) (n + 1) 0 with h | ⟨j, hj, e, hfr⟩
    · exact absurd h hne
    · rw [e, nI_clamp (by omega)]
      obtain ⟨x, y, h1, h2, h3, h4, h5⟩ := hPI j hj
      have hxa : x = a := by
        rw [hfl, h1] at hfr
        exact (nI_eq (by omega) (by omega)).mp hfr
      unfold wayW
      rw [h1, h2]
      split
      · rename_i hlt
        exact Or.inr (Or.inl ⟨rfl, by have := (nI_lt' (by omega) (by omega)).mp hlt; omega⟩)
      · rename_i hlt
        refine Or.inr (Or.inr ⟨rfl, ?_⟩)
        have : ¬ x < y := fun z => hlt ((nI_lt' (by omega) (by omega)).mpr z)
        omega
theorem stW_2 {c nn : Nat} {S : Prop} [Decidable S] {w : Nat → Int32} : stW c nn S w (10 + 20 * c + 2) = if S then nI 2 else if w (10 + 20 * c + 1) = 0 then nI 0 else nI 1 := by
  unfold stW
  rw [up_n (by omega), up_s]
theorem stW_o {c nn : Nat} {S : Prop} [Decidable S] {w : Nat → Int32} {i : Nat} (h2 : i ≠ 10 + 20 * c + 2) (h3 : i ≠ 10 + 20 * c + 3) : stW c nn S w i = w i := by
  unfold stW
  rw [up_n h3, up_n h2]
theorem go_of {x : Int32} {a f : Nat} (hf : f ≤ 80) (ha : a < f) (h : Go x a f) : (x = 0 ∨ x = nI 1 ∨ x = -1) ∧ (¬ x = 0 → ∃ a', a' < f ∧ nI a + x = nI a') := by
  rcases h with h | ⟨h, h1⟩ | ⟨h, h1⟩
  · exact ⟨Or.inl h, fun z => absurd h z⟩
  · exact ⟨Or.inr (Or.inl h), fun _ => ⟨a + 1, h1, by rw [h, nI_add]⟩⟩
  · refine ⟨Or.inr (Or.inr h), fun _ => ⟨a - 1, by omega, ?_⟩⟩
    rw [h, ← pk_m1 (a - 1)]
    congr 2
    omega
theorem lkW_CV {pr : Int32} {ps c n a f : Nat} {w : Nat → Int32} (hn : n ≤ 60) (hc : c < 4) (hps : ps < 80) (hPI : PI w n f) (hf : f ≤ 80) (ha : a < f) (hfl : w (10 + 20 * c + 0) = nI a) (hwy : w (10 + 20 * c + 1) = 0 ∨ w (10 + 20 * c + 1) = nI 1 ∨ w (10 + 20 * c + 1) = -1) (hh : w (10 + 20 * c + 5) = -1 ∨ ∃ h, h < f ∧ w (10 + 20 * c + 5) = nI h) : CV (lkW pr ps c n a f w) c f := by
  unfold lkW lk1
  have fr : ∀ q, q < 820 → (goW c n (n + 1) 0 w 0).1 q = w q := fun q hq => goW_fr (fun p _ => ⟨by omega, by omega⟩) _ _ _ _
  have hPI1 : PI (goW c n (n + 1) 0 w 0).1 n f := PI_fr hPI (fun p hp => ⟨goW_fr (fun q _ => ⟨by omega, by omega⟩) _ _ _ _, goW_fr (fun q _ => ⟨by omega, by omega⟩) _ _ _ _⟩)
  generalize (goW c n (n + 1) 0 w 0).2 = n1
  generalize (goW c n (n + 1) 0 w 0).1 = w1 at fr hPI1 ⊢
  have e0 : w1 (10 + 20 * c + 0) = nI a := by rw [fr _ (by omega)]; exact hfl
  have e1 : w1 (10 + 20 * c + 1) = w (10 + 20 * c + 1) := fr _ (by omega)
  have e5 : w1 (10 + 20 * c + 5) = w (10 + 20 * c + 5) := fr _ (by omega)
  have key : ∀ w2 : Nat → Int32, w2 (10 + 20 * c + 0) = nI a → w2 (10 + 20 * c + 5) = w (10 + 20 * c + 5) → Go (w2 (10 + 20 * c + 1)) a f → CV (lk2 pr ps c n a n1 w2) c f := by
    intro w2 q0 q5 hg
    unfold lk2
    have gf : ∀ q, q < 420 → (giW pr ps c n (n + 1) 0 w2 0 (cnt (rdp w2 2 (nI c)) n)).1 q = w2 q := fun q hq => giW_fr (fun p _ => ⟨by omega, by omega⟩) (by omega) _ _ _ _ _
    generalize (giW pr ps c n (n + 1) 0 w2 0 (cnt (rdp w2 2 (nI c)) n)).2 = m
    generalize (giW pr ps c n (n + 1) 0 w2 0 (cnt (rdp w2 2 (nI c)) n)).1 = w3 at gf ⊢
    obtain ⟨g1, g2⟩ := go_of hf ha hg
    unfold CV
    rw [stW_2, stW_o (by omega) (by omega), stW_o (by omega) (by omega), stW_o (by omega) (by omega), up_n (by omega), up_n (by omega), up_n (by omega), gf (10 + 20 * c + 0) (by omega), gf (10 + 20 * c + 1) (by omega), gf (10 + 20 * c + 5) (by omega), q0, q5]
    refine ⟨⟨a, ha, rfl⟩, g1, fun hd => ?_, hh⟩
    split at hd
    · exact absurd hd (by decide)
    · split at hd
      · exact absurd hd (by decide)
      · rename_i hz
        exact g2 hz
  split
  · refine key _ (by rw [up_n (by omega)]; exact e0) (by rw [up_n (by omega)]; exact e5) ?_
    rw [up_s]
    exact nwW_go hn hPI1 hf ha e0 (by rw [e5]; exact hh)
  · rename_i hno
    refine key _ e0 e5 ?_
    rw [e1] at hno ⊢
    rcases hwy with h | h | h
    · exact absurd (Or.inl h) hno
    · refine Or.inr (Or.inl ⟨h, ?_⟩)
      have hs : nrW w1 c a (decide (w (10 + 20 * c + 1) = nI 1)) f n ≠ none := fun z => hno (Or.inr z)
      rw [h, decide_eq_true rfl] at hs
      obtain ⟨q, hq⟩ := Option.ne_none_iff_exists'.mp hs
      have := nrW_in hPI1 hf ha hq
      simp only [hi, ↓reduceIte] at this
      omega
    · refine Or.inr (Or.inr ⟨h, ?_⟩)
      have hs : nrW w1 c a (decide (w (10 + 20 * c + 1) = nI 1)) f n ≠ none := fun z => hno (Or.inr z)
      rw [h, decide_eq_false (by decide)] at hs
      obtain ⟨q, hq⟩ := Option.ne_none_iff_exists'.mp hs
      have := nrW_in hPI1 hf ha hq
      simp only [hi, Bool.false_eq_true, ↓reduceIte] at this
      omega
theorem csW_CV {pr : Int32} {ps c n f : Nat} {w : Nat → Int32} (hn : n ≤ 60) (hc : c < 4) (hps : ps < 80) (hPI : PI w n f) (hf : f ≤ 80) (hcv : CV w c f) : CV (csW pr ps c n f w) c f := by
  obtain ⟨⟨a, ha, hfl⟩, hwy, hgo, hh⟩ := id hcv
  have ef : flW w c = a := by rw [flW, hfl, nI_clamp (by omega)]
  have pf : ∀ (x : Int32), PI (up w (10 + 20 * c + 3) x) n f := fun x => PI_fr hPI (fun p _ => ⟨up_n (by omega), up_n (by omega)⟩)
  unfold csW
  split
  · exact hcv
  · split
    · rw [ef]; exact lkW_CV hn hc hps hPI hf ha hfl hwy hh
    · split
      · exact ⟨⟨a, ha, by rw [up_n (by omega)]; exact hfl⟩, by rw [up_n (by omega)]; exact hwy, by rw [up_n (by omega), up_n (by omega), up_n (by omega)]; exact hgo, by rw [up_n (by omega)]; exact hh⟩
      · split
        · rename_i h
          obtain ⟨a2, ha2, e2⟩ := hgo h
          rw [e2, nI_clamp (by omega)]
          exact lkW_CV hn hc hps (PI_fr (pf _) (fun p _ => ⟨up_n (by omega), up_n (by omega)⟩)) hf ha2 up_s (by rw [up_n (by omega), up_n (by omega)]; exact hwy) (by rw [up_n (by omega), up_n (by omega)]; exact hh)
        · rw [ef]
          exact lkW_CV hn hc hps (pf _) hf ha (by rw [up_n (by omega)]; exact hfl) (by rw [up_n (by omega)]; exact hwy) (by rw [up_n (by omega)]; exact hh)
/-- what a second rests on and keeps -/
def WS (w : Nat → Int32) (n f rr nl nC : Nat) : Prop := WB w n f rr nl nC ∧ ∀ c, c < nC → CV w c f
theorem s3W_WS {pr : Int32} {ps n f rr nl nC : Nat} (hb : Bd n f rr nC) (hps : ps < 80) : ∀ (k i : Nat) (w : Nat → Int32), WS w n f rr nl nC → WS (s3W pr ps n f nC k i w) n f rr nl nC
  | 0, _, _, h => h
  | k + 1, i, w, h => by
    simp only [s3W]
    split
    · rename_i hi
      have hC := hb.2.2.2
      have hN := hb.1
      have hcv := h.2 i hi
      refine s3W_WS hb hps k (i + 1) _ ⟨WB_fr hb h.1 (fun j hj => csW_fr (by omega) hb.2.1 hps hcv (fun q hq => by rcases hj with h | h | h | h | h | ⟨q1, hq1, h | h⟩ <;> omega) (by rcases hj with h | h | h | h | h | ⟨q1, hq1, h | h⟩ <;> omega) (fun q hq => by rcases hj with h | h | h | h | h | ⟨q1, hq1, h | h⟩ <;> omega)), fun c2 h4 => ?_⟩
      by_cases hci : c2 = i
      · subst hci
        exact csW_CV hN (by omega) hps h.1.2.2.2.2.2 hb.2.1 hcv
      · exact CV_fr (h.2 c2 h4) (fun q hq => csW_fr (by omega) hb.2.1 hps hcv (fun q2 hq2 => by omega) (by omega) (fun q2 hq2 => by omega))
    · exact h
theorem secW_WS {tr : Option (Nat → Int32)} {pr : Int32} {ps n f rr nl nC : Nat} {w : Nat → Int32} (hb : Bd n f rr nC) (hps : ps < 80) (h : WS w n f rr nl nC) : WS (secW tr pr ps n f rr nl nC w) n f rr nl nC := by
  have hC := hb.2.2.2
  have hN := hb.1
  have h1 : WS (s1W n (n + 1) 0 w) n f rr nl nC := ⟨WB_fr hb h.1 (fun j hj => s1W_fr (fun q _ => by rcases hj with h | h | h | h | h | ⟨q1, hq1, h | h⟩ <;> omega) _ _ _), fun c hc => CV_fr (h.2 c hc) (fun q hq => s1W_fr (fun q2 _ => by omega) _ _ _)⟩
  have h2 : WS (s2W tr n rr nl nC (n + 1) 0 (s1W n (n + 1) 0 w)) n f rr nl nC := ⟨WB_fr hb h1.1 (fun j hj => s2W_fr (fun q _ => by rcases hj with h | h | h | h | h | ⟨q1, hq1, h | h⟩ <;> omega) _ _ _), fun c hc => CV_fr (h1.2 c hc) (fun q hq => s2W_fr (fun q2 _ => by omega) _ _ _)⟩
  have h3 := s3W_WS (pr := pr) hb hps (nC + 1) 0 _ h2
  unfold secW
  exact ⟨WB_fr hb h3.1 (fun j hj => up_n (by rcases hj with h | h | h | h | h | ⟨q1, hq1, h | h⟩ <;> omega)), fun c hc => CV_fr (h3.2 c hc) (fun q hq => up_n (by omega))⟩
