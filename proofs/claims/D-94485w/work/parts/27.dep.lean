section FCDEP
variable {g : fc_G} {l : Launch} {y : MethodName} {cc : ByteArray} {nL : Nat} {ret : Option FieldType} {d d' n0 s0 : Nat} {M : fc_M} {pc : Nat} {L : List (Option Value)} {st : List Value} {Q : Outcome → fc_M → Prop}
/-- more depth is no harm -/
theorem fc_dep (h : d ≤ d') (k : fc_X g l y cc nL ret d n0 s0 M pc L st Q) : fc_X g l y cc nL ret d' n0 s0 M pc L st Q := by
  obtain ⟨o, Mf, hQ, hb, hE⟩ := k
  refine ⟨o, Mf, hQ, hb, fun R p e s m args below meth c H ls locs hSt h1 h2 hR hS hL => hE R p e s m args below meth c H ls locs ?_ h1 h2 hR hS hL⟩
  obtain ⟨a1, a2, a3, a4, a5, a6, a7, a8, a9, ⟨b1, b2, b3⟩, a11⟩ := hSt
  exact ⟨a1, a2, a3, a4, a5, a6, a7, a8, a9, ⟨Nat.le_trans h b1, Nat.le_trans (Nat.mul_le_mul_left 64 h) b2, b3⟩, a11⟩
end FCDEP
