set_option maxRecDepth 100000
/-! the nearest target: the reference's search and the class's sets -/
def isN (Q : Nat → Prop) (b : Option Nat) : Prop := match b with
  | none => ∀ d, ¬ Q d
  | some q => Q q ∧ ∀ d, d < q → ¬ Q d
theorem isN_iff {Q R : Nat → Prop} {b : Option Nat} (h : isN Q b) (e : ∀ d, Q d ↔ R d) : isN R b := by
  cases b with
  | none => exact fun d z => h d ((e d).mpr z)
  | some q => exact ⟨(e q).mp h.1, fun d hd z => h.2 d hd ((e d).mpr z)⟩
def tQ (w : Nat → Int32) (c a : Nat) (u : Bool) (i d : Nat) : Prop := 0 < d ∧ ∃ j, j < i ∧ ∃ t, tO w c j = some t ∧ dd u a t = d
theorem stB_N {w : Nat → Int32} {c a : Nat} {u : Bool} {i : Nat} {b : Option Nat} (h : isN (tQ w c a u i) b) : isN (tQ w c a u (i + 1)) (stB u a b (tO w c i)) := by
  have key : ∀ d, tQ w c a u (i + 1) d ↔ (tQ w c a u i d ∨ (0 < d ∧ ∃ t, tO w c i = some t ∧ dd u a t = d)) := by
    intro d
    constructor
    · rintro ⟨h0, j, hj, t, h1, h2⟩
      rcases Nat.lt_or_ge j i with q | q
      · exact Or.inl ⟨h0, j, q, t, h1, h2⟩
      · obtain rfl : j = i := by omega
        exact Or.inr ⟨h0, t, h1, h2⟩
    · rintro (⟨h0, j, hj, t, h1, h2⟩ | ⟨h0, t, h1, h2⟩)
      · exact ⟨h0, j, by omega, t, h1, h2⟩
      · exact ⟨h0, i, by omega, t, h1, h2⟩
  refine isN_iff (Q := fun d => tQ w c a u i d ∨ (0 < d ∧ ∃ t, tO w c i = some t ∧ dd u a t = d)) ?_ (fun d => (key d).symm)
  cases ht : tO w c i with
  | none =>
    have hs : stB u a b none = b := rfl
    rw [hs]
    exact isN_iff h (fun d => ⟨fun z => Or.inl z, fun z => z.elim id (fun z => by obtain ⟨-, t, h1, -⟩ := z; cases h1)⟩)
  | some t =>
    by_cases h0 : dd u a t = 0
    · have hs : stB u a b (some t) = b := if_pos h0
      rw [hs]
      exact isN_iff h (fun d => ⟨fun z => Or.inl z, fun z => z.elim id (fun z => by obtain ⟨h9, t2, h1, h2⟩ := z; cases h1; omega)⟩)
    · cases b with
      | none =>
        have hs : stB u a none (some t) = some (dd u a t) := if_neg h0
        rw [hs]
        refine ⟨Or.inr ⟨by omega, t, rfl, rfl⟩, fun d hd z => ?_⟩
        rcases z with z | ⟨h9, t2, h1, h2⟩
        · exact h d z
        · cases h1; omega
      | some q =>
        have hs : stB u a (some q) (some t) = if dd u a t < q then some (dd u a t) else some q := if_neg h0
        rw [hs]
        by_cases hq : dd u a t < q
        · rw [if_pos hq]
          refine ⟨Or.inr ⟨by omega, t, rfl, rfl⟩, fun d hd z => ?_⟩
          rcases z with z | ⟨h9, t2, h1, h2⟩
          · exact h.2 d (by omega) z
          · cases h1; omega
        · rw [if_neg hq]
          refine ⟨Or.inl h.1, fun d hd z => ?_⟩
          rcases z with z | ⟨h9, t2, h1, h2⟩
          · exact h.2 d hd z
          · cases h1; omega
theorem nb1_N {w : Nat → Int32} {c a : Nat} {u : Bool} {n : Nat} : ∀ (k i : Nat) (b : Option Nat), i ≤ n → n < i + k → isN (tQ w c a u i) b → isN (tQ w c a u n) (nb1 w c a u n k i b) := by
  intro k
  induction k with
  | zero => intro i b h1 h2; omega
  | succ k ih =>
    intro i b h1 h2 h
    rw [nb1]
    by_cases hi : i < n
    · rw [if_pos hi]
      exact ih (i + 1) _ (by omega) (by omega) (stB_N h)
    · rw [if_neg hi]
      obtain rfl : i = n := by omega
      exact h
def rQ (w : Nat → Int32) (c a : Nat) (u : Bool) (f n d : Nat) : Prop := tQ w c a u n d ∨ (0 < d ∧ d < hi u a f ∧ w (420 + 80 * c + fN u a d) = nI 1)
theorem nu2_N {w : Nat → Int32} {c a : Nat} {u : Bool} {f n : Nat} {b : Option Nat} (hb : isN (tQ w c a u n) b) : ∀ (k q : Nat), 0 < q → hi u a f < q + k → (∀ z, b = some z → q ≤ z) → (∀ d, 0 < d → d < q → ¬ w (420 + 80 * c + fN u a d) = nI 1) → isN (rQ w c a u f n) (nu2 w c a u f b k q) := by
  intro k
  have fin : ∀ q, (∀ z, b = some z → q ≤ z) → (∀ d, 0 < d → d < q → ¬ w (420 + 80 * c + fN u a d) = nI 1) → (hi u a f ≤ q ∨ ∃ z, b = some z ∧ z ≤ q) → isN (rQ w c a u f n) b := by
    intro q hz hd hq
    cases b with
    | none =>
      intro d z
      rcases z with z | ⟨h1, h2, h3⟩
      · exact hb d z
      · rcases hq with hq | ⟨z, hq, -⟩
        · exact hd d h1 (by omega) h3
        · cases hq
    | some z =>
      refine ⟨Or.inl hb.1, fun d hdz x => ?_⟩
      rcases x with x | ⟨h1, h2, h3⟩
      · exact hb.2 d hdz x
      · rcases hq with hq | ⟨z2, hq, hq2⟩
        · exact hd d h1 (by omega) h3
        · cases hq
          exact hd d h1 (by omega) h3
  have hit : ∀ q, 0 < q → q < hi u a f → w (420 + 80 * c + fN u a q) = nI 1 → (∀ z, b = some z → q < z) → (∀ d, 0 < d → d < q → ¬ w (420 + 80 * c + fN u a d) = nI 1) → isN (rQ w c a u f n) (some q) := by
    intro q h0 h1 h2 hz hd
    refine ⟨Or.inr ⟨h0, h1, h2⟩, fun d hdq x => ?_⟩
    rcases x with x | ⟨g1, g2, g3⟩
    · cases b with
      | none => exact hb d x
      | some z => exact hb.2 d (by have := hz z rfl; omega) x
    · exact hd d g1 hdq g3
  induction k with
  | zero =>
    intro q h0 hk hz hd
    exact fin q hz hd (Or.inl (by omega))
  | succ k ih =>
    intro q h0 hk hz hd
    have nx : ¬ w (420 + 80 * c + fN u a q) = nI 1 → ∀ d, 0 < d → d < q + 1 → ¬ w (420 + 80 * c + fN u a d) = nI 1 := by
      intro hn d h1 h2
      rcases Nat.lt_or_ge d q with e | e
      · exact hd d h1 e
      · obtain rfl : d = q := by omega
        exact hn
    have g1 := fin q hz hd
    have g2 := hit q h0
    have g3 := ih (q + 1) (by omega) (by omega)
    clear ih fin hit hb
    cases b with
    | none =>
      simp only [nu2]
      by_cases hq : q < hi u a f
      · rw [if_pos hq]
        by_cases hf : w (420 + 80 * c + fN u a q) = nI 1
        · rw [if_pos hf]
          exact g2 hq hf (fun z hz2 => by cases hz2) hd
        · rw [if_neg hf]
          exact g3 (fun z hz2 => by cases hz2) (nx hf)
      · rw [if_neg hq]
        exact g1 (Or.inl (by omega))
    | some z =>
      simp only [nu2]
      by_cases hq : q < hi u a f
      · rw [if_pos hq]
        by_cases hz1 : q < z
        · rw [if_pos hz1]
          by_cases hf : w (420 + 80 * c + fN u a q) = nI 1
          · rw [if_pos hf]
            exact g2 hq hf (fun z2 hz2 => by cases hz2; exact hz1) hd
          · rw [if_neg hf]
            exact g3 (fun z2 hz2 => by cases hz2; omega) (nx hf)
        · rw [if_neg hz1]
          exact g1 (Or.inr ⟨z, rfl, by omega⟩)
      · rw [if_neg hq]
        exact g1 (Or.inl (by omega))
theorem nrW_N {w : Nat → Int32} {c a : Nat} {u : Bool} {f n : Nat} (ha : a < f) : isN (rQ w c a u f n) (nrW w c a u f n) := by
  have h1 : isN (tQ w c a u n) (nb1 w c a u n (n + 1) 0 none) := nb1_N (n + 1) 0 none (Nat.zero_le n) (by omega) (fun d z => by obtain ⟨-, j, hj, -⟩ := z; omega)
  refine nu2_N h1 (f + 1) 1 (by omega) (by unfold hi; split <;> omega) (fun z hz => ?_) (fun d g1 g2 => by omega)
  rw [hz] at h1
  have := h1.1.1
  omega
/-- the class's search -/
def cwL (x z : Int64) (a f : Nat) : Nat → Nat → Option Int32
  | 0, _ => none
  | k + 1, i => if i < f then (if a + i < f ∧ b2 x z (a + i) = true then some (nI 1) else if i ≤ a ∧ b2 x z (a - i) = true then some (-1) else cwL x z a f k (i + 1)) else none
def mUD (u dn : Option Nat) : Option Int32 := match u, dn with
  | none, none => none
  | some _, none => some (nI 1)
  | none, some _ => some (-1)
  | some x, some y => if y < x then some (-1) else some (nI 1)
theorem cwL_N {x z : Int64} {a f : Nat} {Ru Rd : Nat → Prop} {u dn : Option Nat} (ha : a < f) (hu : isN Ru u) (hd : isN Rd dn) (eu : ∀ d, Ru d ↔ (0 < d ∧ a + d < f ∧ b2 x z (a + d) = true)) (ed : ∀ d, Rd d ↔ (0 < d ∧ d ≤ a ∧ b2 x z (a - d) = true)) : ∀ (k i : Nat), 0 < i → f < i + k → (∀ d, d < i → ¬ Ru d ∧ ¬ Rd d) → cwL x z a f k i = mUD u dn := by
  have out : ∀ i, f ≤ i → (∀ d, d < i → ¬ Ru d ∧ ¬ Rd d) → mUD u dn = none := by
    intro i hi h
    cases u with
    | none =>
      cases dn with
      | none => rfl
      | some y =>
        have h1 := (ed y).mp hd.1
        exact absurd hd.1 (h y (by omega)).2
    | some y =>
      have h1 := (eu y).mp hu.1
      exact absurd hu.1 (h y (by omega)).1
  intro k
  induction k with
  | zero => intro i h0 hk h; exact (out i (by omega) h).symm
  | succ k ih =>
    intro i h0 hk h
    rw [cwL]
    by_cases hi : i < f
    · rw [if_pos hi]
      by_cases h1 : a + i < f ∧ b2 x z (a + i) = true
      · rw [if_pos h1]
        have hR : Ru i := (eu i).mpr ⟨h0, h1⟩
        cases u with
        | none => exact absurd hR (hu i)
        | some y =>
          have hy : y = i := by
            rcases Nat.lt_trichotomy y i with q | q | q
            · exact absurd hu.1 (h y q).1
            · exact q
            · exact absurd hR (hu.2 i q)
          subst hy
          cases dn with
          | none => rfl
          | some y2 =>
            have : ¬ y2 < y := fun q => (h y2 q).2 hd.1
            show _ = if y2 < y then _ else _
            rw [if_neg this]
      · rw [if_neg h1]
        have nU : ¬ Ru i := fun q => h1 ((eu i).mp q).2
        by_cases h2 : i ≤ a ∧ b2 x z (a - i) = true
        · rw [if_pos h2]
          have hR : Rd i := (ed i).mpr ⟨h0, h2⟩
          cases dn with
          | none => exact absurd hR (hd i)
          | some y =>
            have hy : y = i := by
              rcases Nat.lt_trichotomy y i with q | q | q
              · exact absurd hd.1 (h y q).2
              · exact q
              · exact absurd hR (hd.2 i q)
            subst hy
            cases u with
            | none => rfl
            | some y2 =>
              have : y < y2 := by
                rcases Nat.lt_trichotomy y y2 with q | q | q
                · exact q
                · subst q; exact absurd hu.1 nU
                · exact absurd hu.1 (h y2 q).1
              show _ = if y < y2 then _ else _
              rw [if_pos this]
        · rw [if_neg h2]
          have nD : ¬ Rd i := fun q => h2 ((ed i).mp q).2
          refine ih (i + 1) (by omega) (by omega) (fun d hd2 => ?_)
          rcases Nat.lt_or_ge d i with q | q
          · exact h d q
          · obtain rfl : d = i := by omega
            exact ⟨nU, nD⟩
    · rw [if_neg hi]
      exact (out i (by omega) h).symm
/-- the targets of a car as a set of floors -/
def tgS (w : Nat → Int32) (c n f : Nat) (x z : Int64) (a : Nat) : Prop := ∀ g, b2 x z g = true ↔ ((∃ j, j < n ∧ tO w c j = some g) ∨ (g < f ∧ g ≠ a ∧ w (420 + 80 * c + g) = nI 1))
theorem rQ_up {w : Nat → Int32} {c n f a : Nat} {x z : Int64} (hT : ∀ p, p < n → ∀ t, tO w c p = some t → t < f) (hS : tgS w c n f x z a) (ha : a < f) : ∀ d, rQ w c a true f n d ↔ (0 < d ∧ a + d < f ∧ b2 x z (a + d) = true) := by
  intro d
  constructor
  · rintro (⟨h0, j, hj, t, h1, h2⟩ | ⟨h0, h1, h2⟩)
    · have h3 := hT j hj t h1
      have h2 : t - a = d := h2
      have e : a + d = t := by omega
      exact ⟨h0, by omega, (hS _).mpr (Or.inl ⟨j, hj, by rw [e]; exact h1⟩)⟩
    · have h1 : d < f - a := h1
      exact ⟨h0, by omega, (hS _).mpr (Or.inr ⟨by omega, by omega, h2⟩)⟩
  · rintro ⟨h0, h1, h2⟩
    rcases (hS _).mp h2 with ⟨j, hj, h3⟩ | ⟨h3, h4, h5⟩
    · exact Or.inl ⟨h0, j, hj, a + d, h3, show a + d - a = d by omega⟩
    · exact Or.inr ⟨h0, show d < f - a by omega, h5⟩
theorem rQ_dn {w : Nat → Int32} {c n f a : Nat} {x z : Int64} (hS : tgS w c n f x z a) (ha : a < f) : ∀ d, rQ w c a false f n d ↔ (0 < d ∧ d ≤ a ∧ b2 x z (a - d) = true) := by
  intro d
  constructor
  · rintro (⟨h0, j, hj, t, h1, h2⟩ | ⟨h0, h1, h2⟩)
    · have h2 : a - t = d := h2
      have e : a - d = t := by omega
      exact ⟨h0, by omega, (hS _).mpr (Or.inl ⟨j, hj, by rw [e]; exact h1⟩)⟩
    · have h1 : d < a + 1 := h1
      exact ⟨h0, by omega, (hS _).mpr (Or.inr ⟨by omega, by omega, h2⟩)⟩
  · rintro ⟨h0, h1, h2⟩
    rcases (hS _).mp h2 with ⟨j, hj, h3⟩ | ⟨h3, h4, h5⟩
    · exact Or.inl ⟨h0, j, hj, a - d, h3, show a - (a - d) = d by omega⟩
    · exact Or.inr ⟨h0, show d < a + 1 by omega, h5⟩
theorem ahU_N {w : Nat → Int32} {c n f a : Nat} {x z : Int64} {u : Bool} (hT : ∀ p, p < n → ∀ t, tO w c p = some t → t < f) (hS : tgS w c n f x z a) (ha : a < f) : ahU x z u a ↔ ¬ nrW w c a u f n = none := by
  have hN := nrW_N (w := w) (c := c) (u := u) (n := n) ha
  have hb : ∀ g, b2 x z g = true → g < f := by
    intro g hg
    rcases (hS g).mp hg with ⟨j, hj, h3⟩ | ⟨h3, -, -⟩
    · exact hT j hj g h3
    · exact h3
  constructor
  · rintro ⟨g, h1, h2⟩ e
    rw [e] at hN
    have hg := hb g h2
    cases u with
    | true =>
      have h1 : a < g := h1
      exact hN (g - a) ((rQ_up hT hS ha _).mpr ⟨by omega, by omega, by rw [show a + (g - a) = g by omega]; exact h2⟩)
    | false =>
      have h1 : g < a := h1
      exact hN (a - g) ((rQ_dn hS ha _).mpr ⟨by omega, by omega, by rw [show a - (a - g) = g by omega]; exact h2⟩)
  · intro h
    cases e : nrW w c a u f n with
    | none => exact absurd e h
    | some q =>
      rw [e] at hN
      cases u with
      | true =>
        have h3 := (rQ_up hT hS ha _).mp hN.1
        exact ⟨a + q, (show a < a + q by omega), h3.2.2⟩
      | false =>
        have h3 := (rQ_dn hS ha _).mp hN.1
        exact ⟨a - q, (show a - q < a by omega), h3.2.2⟩
theorem cwL_nw {w : Nat → Int32} {c n f a : Nat} {x z : Int64} (hT : ∀ p, p < n → ∀ t, tO w c p = some t → t < f) (hS : tgS w c n f x z a) (ha : a < f) : cwL x z a f (f + 1) 1 = mUD (nrW w c a true f n) (nrW w c a false f n) :=
  cwL_N ha (nrW_N ha) (nrW_N ha) (rQ_up hT hS ha) (rQ_dn hS ha) (f + 1) 1 (by omega) (by omega) (fun d hd => ⟨fun q => by have := ((rQ_up hT hS ha _).mp q).1; omega, fun q => by have := ((rQ_dn hS ha _).mp q).1; omega⟩)
