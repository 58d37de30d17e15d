set_option maxRecDepth 100000
section T99S
variable {g : fc_G} {M : fc_M} {S : tT} {β π f nC : Nat} {w : Nat → Int32} {v : Value}
theorem put_ct {a k : Nat} (h : a ≠ β) : fc_ct (fc_put M β 5 v) a k = fc_ct M a k := if_neg (fun e => h e.1)
theorem LF_put (hβ : β ≠ 0) (h : LF g M) : LF g (fc_put M β 5 v) := ⟨h.1, fun k b hk => (put_ct (fun e => hβ e.symm)).trans (h.2.1 k b hk), h.2.2⟩
theorem PC_put (h : PC g M S π β f nC w) : PC g (fc_put M β 5 v) S π β f nC w := by
  obtain ⟨h1, h2, ⟨h3, h4, h5⟩, a1, ⟨c1, c2, c3⟩, a3⟩ := h
  exact ⟨LF_put (by omega) h1, (put_ct (by omega)).trans h2, ⟨h3, h4, h5⟩, a1, ⟨fun j hj => (put_ct (by omega)).trans (c1 j hj), (put_ct (by omega)).trans c2, fun c hc => (put_ct (by omega)).trans (c3 c hc)⟩, a3⟩
theorem tmI_put (hs : fc_sh M β = .inl 3) : ∀ (k r : Nat) (ps : tLs), tmI g M S k r ps → tmI g (fc_put M β 5 v) S k r ps := by
  intro k
  induction k with
  | zero => intro r ps q; exact q
  | succ k ih =>
    intro r ps q
    obtain ⟨hr, q⟩ := q
    refine ⟨hr, ?_⟩
    rcases q with q | q | ⟨h, a, pa, ha, hA, rfl⟩ | ⟨h, a, pa, b, pb, s, ha, hb, hsg, hA, hB, hps⟩
    · exact Or.inl q
    · exact Or.inr (Or.inl q)
    · have hne : r ≠ β := fun e => by rw [e, hs] at h; cases h
      exact Or.inr (Or.inr (Or.inl ⟨h, a, pa, (put_ct hne).trans ha, ih a pa hA, rfl⟩))
    · have hne : r ≠ β := fun e => by rw [e, hs] at h; cases h
      exact Or.inr (Or.inr (Or.inr ⟨h, a, pa, b, pb, s, (put_ct hne).trans ha, (put_ct hne).trans hb, hsg, ih a pa hA, ih b pb hB, hps⟩))
theorem TX_put {τ r nl : Nat} (hs : fc_sh M β = .inl 3) (q : TX g M S τ w r nl) : TX g (fc_put M β 5 v) S τ w r nl := by
  obtain ⟨⟨t1, t2, t3, t4, t5⟩, ⟨r1, r2, r3⟩, m, hl⟩ := q
  have n1 : τ ≠ β := fun e => by rw [e, hs] at t2; cases t2
  have n2 : τ + 2 ≠ β := fun e => by rw [e, hs] at t4; cases t4
  have n3 : τ + 3 ≠ β := fun e => by rw [e, hs] at t5; cases t5
  refine ⟨⟨t1, t2, t3, t4, t5⟩, ⟨(put_ct n1).trans r1, (put_ct n1).trans r2, (put_ct n1).trans r3⟩, m, fun i hi => ?_⟩
  obtain ⟨a1, a2, a3⟩ := hl i hi
  refine ⟨a1, ?_, fun z => ?_⟩
  · rcases a2 with ⟨b1, b2⟩ | ⟨b1, x, b2, b3, b4⟩
    · exact Or.inl ⟨b1, (put_ct n3).trans b2⟩
    · exact Or.inr ⟨b1, x, (put_ct n3).trans b2, tmI_put hs 402 x _ b3, b4⟩
  · obtain ⟨x, b1, b2⟩ := a3 z
    exact ⟨x, (put_ct n2).trans b1, tmI_put hs 402 x _ b2⟩
end T99S
