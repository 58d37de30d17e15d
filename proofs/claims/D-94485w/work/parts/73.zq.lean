section FCZQ
variable {g : fc_G} {l : Launch} {y : MethodName} {cc : ByteArray} {nL : Nat} {ret : Option FieldType} {d n0 s0 : Nat} {M : fc_M} {pc : Nat} {L : List (Option Value)} {st : List Value}
/-- a static of which is known only that it holds null or some object -/
theorem x_getZq {i : Nat} {C n t : String} {o0 : Outcome} {M0 : fc_M} (hd : decode cc pc = .ok (.getstatic i, 3)) (hE : ∀ U, fc_Env g U → va_Zq C n t (fc_A g) U (fc_H0 g)) (hq : Cond.fieldLink y.cls i C n t ∈ lw_all)
    (kk : ∀ v : Value, v.category = 1 → fc_X g l y cc nL ret d n0 s0 M (pc + 3) L (v :: st) (fun o M2 => o = o0 ∧ M2 = M0)) : fc_X g l y cc nL ret d n0 s0 M pc L st (fun o M2 => o = o0 ∧ M2 = M0) := by
  have k2 : ∀ v : Value, v.category = 1 → fc_E g l y cc nL ret d n0 s0 o0 M0 M (pc + 3) L (v :: st) := fun v hv => by
    obtain ⟨o, Mf, ⟨h1, h2⟩, h3⟩ := kk v hv
    subst h1
    subst h2
    exact h3
  refine ⟨o0, M0, ⟨rfl, rfl⟩, (k2 .null rfl).1, fun R p e s m args below meth c H ls locs hSt h1 h2 hR hS hL => ?_⟩
  obtain ⟨hx, hb, hml, hown, hrt, hlk, hts, hnm, henv, -, hsz, hold, -⟩ := id hSt
  rcases hE s henv with z | ⟨t, z⟩
  · exact va_gets hx hb (z.kept (fun a _ h => hold a (Nat.lt_of_not_le h))) hS hown (hts _ hq) (fun x h => h) hd ((k2 .null rfl).2 R p e s m args below meth c H ls locs hSt h1 h2 hR hS hL)
  · exact va_gets hx hb (z.kept (fun a _ h => hold a (Nat.lt_of_not_le h))) hS hown (hts _ hq) (fun x h => h) hd ((k2 (.ref t) rfl).2 R p e s m args below meth c H ls locs hSt h1 h2 hR hS hL)
end FCZQ
