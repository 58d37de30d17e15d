section FCLDS
variable {g : fc_G} {l : Launch} {y : MethodName} {cc : ByteArray} {nL : Nat} {ret : Option FieldType} {d n0 s0 : Nat} {M : fc_M} {pc : Nat} {L : List (Option Value)} {st : List Value} {Q : Outcome → fc_M → Prop}
theorem x_ldcS {i j : Nat} {q : String × Nat × String × List Int32} (hj : fcStr[j]? = some q) (ho : q.1 = y.cls) (hk : q.2.1 = i) (hd : decode cc pc = .ok (.ldc i, 2))
    (kk : fc_X g l y cc nL ret d n0 s0 M (pc + 2) L (.ref (fc_sK g j) :: st) Q) : fc_X g l y cc nL ret d n0 s0 M pc L st Q := by
  subst hk
  refine fc_go (fun R p e s m args below meth c H ls locs cells slots Qs Mf hSt hR hS hL w => ?_) kk
  obtain ⟨hx, hb, hml, hown, hrt, hlk, hts, hnm, henv, -⟩ := hSt
  exact va_ldcS hx hb (own := q.1) (by rw [ho]; exact hown) (henv.2.2.2.1 j q hj).1 hd w
end FCLDS
