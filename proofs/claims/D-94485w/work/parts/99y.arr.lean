set_option maxRecDepth 100000
section T99Y
variable {g : fc_G} {l : Launch} {M : fc_M} {S : tT} {U : tU} {β : Nat} {w : Nat → Int32} {π f nC : Nat}
theorem sw7 (x : Int32) : x = nI 0 ∨ x = nI 1 ∨ x = nI 2 ∨ x = nI 3 ∨ x = nI 4 ∨ x = nI 5 ∨ x = nI 6 ∨ (x.toInt < 0 ∨ 6 < x.toInt) := by
  rcases Classical.em (inN x 7) with h | h
  · obtain ⟨j, hj, rfl⟩ := (inN_iff (by decide)).mp h
    rcases (show j = 0 ∨ j = 1 ∨ j = 2 ∨ j = 3 ∨ j = 4 ∨ j = 5 ∨ j = 6 by omega) with rfl | rfl | rfl | rfl | rfl | rfl | rfl <;> first | exact Or.inl rfl | exact Or.inr (Or.inl rfl) | exact Or.inr (Or.inr (Or.inl rfl)) | exact Or.inr (Or.inr (Or.inr (Or.inl rfl))) | exact Or.inr (Or.inr (Or.inr (Or.inr (Or.inl rfl)))) | exact Or.inr (Or.inr (Or.inr (Or.inr (Or.inr (Or.inl rfl))))) | exact Or.inr (Or.inr (Or.inr (Or.inr (Or.inr (Or.inr (Or.inl rfl))))))
  · refine Or.inr (Or.inr (Or.inr (Or.inr (Or.inr (Or.inr (Or.inr (?_)))))))
    have : ¬ (0 ≤ x.toInt ∧ x.toInt < (7 : Nat)) := h
    omega
theorem sw14 (x : Int32) : x = nI 0 ∨ x = nI 1 ∨ x = nI 2 ∨ x = nI 3 ∨ x = nI 4 ∨ x = nI 5 ∨ x = nI 6 ∨ x = nI 7 ∨ x = nI 8 ∨ x = nI 9 ∨ x = nI 10 ∨ x = nI 11 ∨ x = nI 12 ∨ x = nI 13 ∨ (x.toInt < 0 ∨ 13 < x.toInt) := by
  rcases Classical.em (inN x 14) with h | h
  · obtain ⟨j, hj, rfl⟩ := (inN_iff (by decide)).mp h
    rcases (show j = 0 ∨ j = 1 ∨ j = 2 ∨ j = 3 ∨ j = 4 ∨ j = 5 ∨ j = 6 ∨ j = 7 ∨ j = 8 ∨ j = 9 ∨ j = 10 ∨ j = 11 ∨ j = 12 ∨ j = 13 by omega) with rfl | rfl | rfl | rfl | rfl | rfl | rfl | rfl | rfl | rfl | rfl | rfl | rfl | rfl <;> first | exact Or.inl rfl | exact Or.inr (Or.inl rfl) | exact Or.inr (Or.inr (Or.inl rfl)) | exact Or.inr (Or.inr (Or.inr (Or.inl rfl))) | exact Or.inr (Or.inr (Or.inr (Or.inr (Or.inl rfl)))) | exact Or.inr (Or.inr (Or.inr (Or.inr (Or.inr (Or.inl rfl))))) | exact Or.inr (Or.inr (Or.inr (Or.inr (Or.inr (Or.inr (Or.inl rfl)))))) | exact Or.inr (Or.inr (Or.inr (Or.inr (Or.inr (Or.inr (Or.inr (Or.inl rfl))))))) | exact Or.inr (Or.inr (Or.inr (Or.inr (Or.inr (Or.inr (Or.inr (Or.inr (Or.inl rfl)))))))) | exact Or.inr (Or.inr (Or.inr (Or.inr (Or.inr (Or.inr (Or.inr (Or.inr (Or.inr (Or.inl rfl))))))))) | exact Or.inr (Or.inr (Or.inr (Or.inr (Or.inr (Or.inr (Or.inr (Or.inr (Or.inr (Or.inr (Or.inl rfl)))))))))) | exact Or.inr (Or.inr (Or.inr (Or.inr (Or.inr (Or.inr (Or.inr (Or.inr (Or.inr (Or.inr (Or.inr (Or.inl rfl))))))))))) | exact Or.inr (Or.inr (Or.inr (Or.inr (Or.inr (Or.inr (Or.inr (Or.inr (Or.inr (Or.inr (Or.inr (Or.inr (Or.inl rfl)))))))))))) | exact Or.inr (Or.inr (Or.inr (Or.inr (Or.inr (Or.inr (Or.inr (Or.inr (Or.inr (Or.inr (Or.inr (Or.inr (Or.inr (Or.inl rfl)))))))))))))
  · refine Or.inr (Or.inr (Or.inr (Or.inr (Or.inr (Or.inr (Or.inr (Or.inr (Or.inr (Or.inr (Or.inr (Or.inr (Or.inr (Or.inr (?_))))))))))))))
    have : ¬ (0 ≤ x.toInt ∧ x.toInt < (14 : Nat)) := h
    omega
theorem k_ald {y : MethodName} {cc : ByteArray} {nL : Nat} {ret : Option FieldType} {d n0 s0 : Nat} {pc : Nat} {L : List (Option Value)} {st : List Value} {Q : Outcome → fc_M → Prop} {a n i : Nat} (hd : decode cc pc = .ok (.iaload, 1)) (ha : a < fc_nx M) (hs : fc_sh M a = .inr (.int, n)) (hn : n < 2 ^ 31) (hi : i < n) (ho : a < β ∨ β + 67 ≤ a) (kk : fc_X g l y cc nL ret d n0 s0 (cR M S U β w) (pc + 1) L (.int (S a i) :: st) Q) : fc_X g l y cc nL ret d n0 s0 (cR M S U β w) pc L (.int (nI i) :: .ref (fc_B g + a) :: st) Q :=
  q_iald hd ha hs hn hi (by rw [clr_o ho]; exact kk)
theorem k_ast {y : MethodName} {cc : ByteArray} {nL : Nat} {ret : Option FieldType} {d n0 s0 : Nat} {pc : Nat} {L : List (Option Value)} {st : List Value} {Q : Outcome → fc_M → Prop} {a n i : Nat} {x : Int32} (hd : decode cc pc = .ok (.iastore, 1)) (ha : a < fc_nx M) (hs : fc_sh M a = .inr (.int, n)) (hn : n < 2 ^ 31) (hi : i < n) (ho : a < β ∨ β + 67 ≤ a) (kk : fc_X g l y cc nL ret d n0 s0 (cR M (tu S a i x) U β w) (pc + 1) L st Q) : fc_X g l y cc nL ret d n0 s0 (cR M S U β w) pc L (.int x :: .int (nI i) :: .ref (fc_B g + a) :: st) Q := by
  refine x_iast hd ha hs hn hi ?_
  rw [cl_puti (by rw [hs]; rfl), clr_uo (by omega)]
  exact kk
theorem PC_off {S' : tT} (h : PC g M S π β f nC w) (e : ∀ a k, π ≤ a → a < π + 11 → S' a k = S a k) : PC g M S' π β f nC w := by
  obtain ⟨h1, h2, h3, a1, a2, ⟨b1, b2, b3, b4, b5⟩, a4, a5, a6⟩ := h
  refine ⟨h1, h2, h3, a1, a2, ⟨(e _ _ (by omega) (by omega)).trans b1, (e _ _ (by omega) (by omega)).trans b2, (e _ _ (by omega) (by omega)).trans b3, b4, b5⟩, fun c hc j hj => ?_, fun c hc q hq => ?_, a6⟩
  · rw [e _ _ (by omega) (by omega)]
    exact a4 c hc j hj
  · rw [e _ _ (by omega) (by omega)]
    exact a5 c hc q hq
/-- where a plan may lie -/
abbrev plA (π : Nat) : Prop := π = 19 ∨ 262 ≤ π
theorem PC_tu {a k : Nat} {x : Int32} (h : PC g M S π β f nC w) (hp : plA π) (ha : a < 19 ∨ (29 < a ∧ a < 262)) : PC g M (tu S a k x) π β f nC w :=
  PC_off h (fun b j h1 h2 => if_neg (fun z => by omega))
theorem ge100 {x : Int32} (h : ¬ x < nI 100) : ∃ k, 100 ≤ k ∧ k < 2 ^ 31 ∧ x = nI k := by
  obtain ⟨j, h1, h2⟩ := nI_of (x := x) (fun q => h (Int32.lt_trans q (by decide)))
  subst h2
  exact ⟨j, Nat.not_lt.mp (fun z => h (nI_lt z (by decide))), h1, rfl⟩
theorem fl100 {k : Nat} (hk : 100 ≤ k) (hk2 : k < 2 ^ 31) (hf : f ≤ 80) : (nI 0 ≤ nI (k - 100) ∧ nI (k - 100) ≤ nI f - nI 1) ↔ (nI 100 ≤ nI k ∧ nI k ≤ nI 99 + nI f) := by
  rw [inN_le (by omega), nI_add, nI_leI (by decide) hk2, nI_leI hk2 (by omega)]
  constructor
  · intro h
    have := h.2
    rw [nI_toInt (by omega)] at this
    omega
  · intro h
    exact inN_of (by omega) (by omega)
theorem clr_740 {i : Nat} {x : Int32} (hi : i < 80) : clr S β (up w (740 + i) x) = clr S β w := by
  funext a k
  show (if _ then _ else _) = (if _ then _ else _)
  by_cases h1 : a = β ∧ (k = 2 ∨ k = 3 ∨ k = 4)
  · rw [if_pos h1, if_pos h1, up_n (by omega)]
  · rw [if_neg h1, if_neg h1]
    by_cases h2 : β + 3 ≤ a ∧ a < β + 63 ∧ k < 7
    · rw [if_pos h2, if_pos h2, up_n (by omega)]
    · rw [if_neg h2, if_neg h2]
      by_cases h3 : β + 63 ≤ a ∧ a < β + 67 ∧ k < 6
      · rw [if_pos h3, if_pos h3, up_n (by unfold cmp; split <;> (try split) <;> omega)]
      · rw [if_neg h3, if_neg h3]
end T99Y
