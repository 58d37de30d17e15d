set_option maxRecDepth 100000
section T99F
variable {g : fc_G} {M : fc_M} {S S' : tT} {β : Nat} {w : Nat → Int32}
/-- terms see their own objects alone -/
theorem tmI_ext (h : ∀ a, (fc_sh M a = .inl 8 ∨ fc_sh M a = .inl 9 ∨ fc_sh M a = .inl 10) → S' a 0 = S a 0) : ∀ (k r : Nat) (ps : tLs), tmI g M S k r ps → tmI g M S' k r ps := by
  intro k
  induction k with
  | zero => intro r ps q; exact q
  | succ k ih =>
    intro r ps q
    obtain ⟨hr, q⟩ := q
    refine ⟨hr, ?_⟩
    rcases q with ⟨hs, rfl⟩ | ⟨hs, j, v, hj, hv, rfl⟩ | ⟨hs, a, pa, ha, hA, rfl⟩ | ⟨hs, a, pa, b, pb, s, ha, hb, hsg, hA, hB, hps⟩
    · exact Or.inl ⟨hs, by rw [h r (Or.inl hs)]⟩
    · exact Or.inr (Or.inl ⟨hs, j, v, hj, by rw [h r (Or.inr (Or.inl hs))]; exact hv, rfl⟩)
    · exact Or.inr (Or.inr (Or.inl ⟨hs, a, pa, ha, ih a pa hA, rfl⟩))
    · exact Or.inr (Or.inr (Or.inr ⟨hs, a, pa, b, pb, s, ha, hb, by rw [h r (Or.inr (Or.inr hs))]; exact hsg, ih a pa hA, ih b pb hB, hps⟩))
theorem TX_ext {τ r nl : Nat} (h : ∀ a k, (fc_sh M a = .inl 8 ∨ fc_sh M a = .inl 9 ∨ fc_sh M a = .inl 10 ∨ fc_sh M a = .inl 1 ∨ fc_sh M a = .inr (.int, 16)) → S' a k = S a k) (q : TX g M S τ w r nl) : TX g M S' τ w r nl := by
  obtain ⟨⟨t1, t2, t3, t4, t5⟩, hr, ⟨m1, m2⟩, hl⟩ := q
  have h0 : ∀ a, (fc_sh M a = .inl 8 ∨ fc_sh M a = .inl 9 ∨ fc_sh M a = .inl 10) → S' a 0 = S a 0 := fun a z => h a 0 (by rcases z with z | z | z <;> simp [z])
  refine ⟨⟨t1, t2, t3, t4, t5⟩, hr, ⟨by rw [h τ 3 (by simp [t2])]; exact m1, m2⟩, fun i hi => ?_⟩
  obtain ⟨⟨a1, a2⟩, a3, a4⟩ := hl i hi
  refine ⟨⟨by rw [h (τ + 1) i (by simp [t3])]; exact a1, a2⟩, ?_, fun z => ?_⟩
  · rcases a3 with a3 | ⟨b1, x, b2, b3, b4⟩
    · exact Or.inl a3
    · exact Or.inr ⟨b1, x, b2, tmI_ext h0 402 x _ b3, b4⟩
  · obtain ⟨x, b1, b2⟩ := a4 z
    exact ⟨x, b1, tmI_ext h0 402 x _ b2⟩
/-- an object that is none of a tower's -/
theorem off_tw {a : Nat} (hL : LT g M β) (h : ∀ j, j < 67 → ¬ fc_sh M a = twSh j) : a < β ∨ β + 67 ≤ a := by
  rcases Nat.lt_or_ge a β with q | q
  · exact Or.inl q
  · rcases Nat.lt_or_ge a (β + 67) with q2 | q2
    · have := hL.2.1 (a - β) (by omega)
      rw [show β + (a - β) = a by omega] at this
      exact absurd this (h (a - β) (by omega))
    · exact Or.inr q2
theorem tw_not {j : Nat} {s : fc_Sh} (hs : s = .inl 8 ∨ s = .inl 9 ∨ s = .inl 10 ∨ s = .inl 1 ∨ s = .inr (.int, 16)) : ¬ s = twSh j := by
  intro e
  unfold twSh at e
  rcases hs with z | z | z | z | z <;> subst z <;> (repeat' split at e) <;> simp at e
theorem clr_off {a k : Nat} (hL : LT g M β) (h : fc_sh M a = .inl 8 ∨ fc_sh M a = .inl 9 ∨ fc_sh M a = .inl 10 ∨ fc_sh M a = .inl 1 ∨ fc_sh M a = .inr (.int, 16)) : clr S β w a k = S a k := clr_o (off_tw hL (fun j _ => tw_not h))
/-- a text stands as it is while a tower moves and answers are asked -/
theorem TX_tw {τ r nl : Nat} {w2 : Nat → Int32} (hL : LT g M β) (hF : LF g M) (hS : SF S S' β) (q : TX g M S τ w r nl) : TX g M (clr S' β w2) τ w r nl := by
  refine TX_ext (fun a k h => ?_) q
  have h2 := off_tw hL (fun j _ => tw_not (s := fc_sh M a) (j := j) h)
  rw [clr_o h2]
  refine hS a k (fun e => ?_) (fun e => by omega)
  subst e
  have h3 : fc_sh M 31 = .inr (.int, 10) := hF.2.2 31 _ rfl
  rw [h3] at h
  simp at h
end T99F
