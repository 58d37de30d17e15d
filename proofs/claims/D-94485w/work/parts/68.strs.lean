section FCSTR
variable {g : fc_G} {l : Launch} {y : MethodName} {cc : ByteArray} {nL : Nat} {ret : Option FieldType} {d n0 s0 : Nat} {M : fc_M} {pc : Nat} {L : List (Option Value)} {st : List Value} {Q : Outcome → fc_M → Prop}
theorem x_getZ {i : Nat} {C n t : String} {v : Value} (hd : decode cc pc = .ok (.getstatic i, 3)) (hE : ∀ U, fc_Env g U → va_Z C n t v (fc_A g) U (fc_H0 g)) (hq : Cond.fieldLink y.cls i C n t ∈ lw_all)
    (kk : fc_X g l y cc nL ret d n0 s0 M (pc + 3) L (v :: st) Q) : fc_X g l y cc nL ret d n0 s0 M pc L st Q := by
  refine fc_go (fun R p e s m args below meth c H ls locs cells slots Qs Mf hSt hR hS hL w => ?_) kk
  obtain ⟨hx, hb, hml, hown, hrt, hlk, hts, hnm, henv, -, hsz, hold, -⟩ := hSt
  exact va_gets hx hb ((hE s henv).kept (fun a _ h => hold a (Nat.lt_of_not_le h))) hS hown (hts _ hq) (fun x h => h) hd w
theorem x_getO {i q : Nat} {C n t : String} {v : Value} (hd : decode cc pc = .ok (.getfield i, 3)) (hE : ∀ U, fc_Env g U → va_OF C n t v q (fc_A g) U (fc_H0 g)) (hq : Cond.fieldLink y.cls i C n t ∈ lw_all)
    (kk : fc_X g l y cc nL ret d n0 s0 M (pc + 3) L (v :: st) Q) : fc_X g l y cc nL ret d n0 s0 M pc L (.ref q :: st) Q := by
  refine fc_go (fun R p e s m args below meth c H ls locs cells slots Qs Mf hSt hR hS hL w => ?_) kk
  obtain ⟨hx, hb, hml, hown, hrt, hlk, hts, hnm, henv, -, hsz, hold, -⟩ := hSt
  exact vk_getf hx hb ((hE s henv).kept (fun a _ h => hold a (Nat.lt_of_not_le h))) hS hown (hts _ hq) (fun x h => h) hd w
theorem x_tbld {q N j : Nat} {f : Nat → Value} {v : Value} (hd : decode cc pc = .ok (.baload, 1)) (hE : ∀ U, fc_Env g U → va_T .byte q N f (fc_A g) U (fc_H0 g)) (hj : j < N) (hN : N < 2 ^ 31) (hv : f j = v)
    (kk : fc_X g l y cc nL ret d n0 s0 M (pc + 1) L (v :: st) Q) : fc_X g l y cc nL ret d n0 s0 M pc L (.int (nI j) :: .ref q :: st) Q := by
  refine fc_go (fun R p e s m args below meth c H ls locs cells slots Qs Mf hSt hR hS hL w => ?_) kk
  obtain ⟨hx, hb, hml, hown, hrt, hlk, hts, hnm, henv, -, hsz, hold, -⟩ := hSt
  refine va_tb hx hb ((hE s henv).kept (fun a _ h => hold a (Nat.lt_of_not_le h))) hS (i := nI j) ?_ (by rw [nI_clamp (by omega), hv]) hd w
  intro h
  rcases h with h | h
  · have h3 := Int32.lt_iff_toInt_lt.mp h
    rw [nI_toInt (by omega)] at h3
    have h4 : (0 : Int32).toInt = 0 := rfl
    omega
  · rw [nI_clamp (by omega)] at h
    omega
theorem x_tlen {q N : Nat} {f : Nat → Value} (hd : decode cc pc = .ok (.arraylength, 1)) (hE : ∀ U, fc_Env g U → va_T .byte q N f (fc_A g) U (fc_H0 g))
    (kk : fc_X g l y cc nL ret d n0 s0 M (pc + 1) L (.int (nI N) :: st) Q) : fc_X g l y cc nL ret d n0 s0 M pc L (.ref q :: st) Q := by
  refine fc_go (fun R p e s m args below meth c H ls locs cells slots Qs Mf hSt hR hS hL w => ?_) kk
  obtain ⟨hx, hb, hml, hown, hrt, hlk, hts, hnm, henv, -, hsz, hold, -⟩ := hSt
  obtain ⟨cell, h1, h2, h3, h4, h5, h6, h7⟩ := hE s henv
  exact W.alen (n := nI N) hx hb (by rw [hR.2.1 q (Nat.lt_of_not_le h7)]; exact h1) h2 h5 rfl rfl hd w
end FCSTR
