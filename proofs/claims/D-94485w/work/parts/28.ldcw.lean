section FCLW
variable {g : fc_G} {l : Launch} {y : MethodName} {cc : ByteArray} {nL : Nat} {ret : Option FieldType} {d n0 s0 : Nat} {M : fc_M} {pc : Nat} {L : List (Option Value)} {st : List Value} {Q : Outcome → fc_M → Prop}
theorem x_ldcw {i : Nat} {v : Int32} (hd : decode cc pc = .ok (.ldc_w i, 3)) (hq : Cond.constant y.cls i v ∈ lw_all) (k : fc_X g l y cc nL ret d n0 s0 M (pc + 3) L (.int v :: st) Q) : fc_X g l y cc nL ret d n0 s0 M pc L st Q :=
  fc_go (fun R p e s m args below meth c H ls locs cells slots Qs Mf hSt hR hS hL k => lv_ldcw hSt.1 hSt.2.1 hSt.2.2.2.1 (hSt.2.2.2.2.2.2.1 _ hq) hd k) k
end FCLW
