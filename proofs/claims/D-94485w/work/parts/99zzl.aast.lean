set_option maxRecDepth 100000
/-! ===== an object laid into an array of objects ===== -/
section T99ZZL
variable {g : fc_G} {l : Launch} {y : MethodName} {cc : ByteArray} {nL : Nat} {ret : Option FieldType} {d n0 s0 : Nat} {M : fc_M} {pc : Nat} {L : List (Option Value)} {st : List Value} {Q : Outcome → fc_M → Prop} {S : tT} {U : tU}
theorem x_aast {a n i x ci : Nat} {E : String} {r : vw_C} (hd : decode cc pc = .ok (.aastore, 1)) (ha : a < fc_nx M) (hs : fc_sh M a = .inr (.object E, n)) (hn : n < 2 ^ 31) (hi : i < n) (hx : x < fc_nx M) (hsx : fc_sh M x = .inl ci) (hc : fcCl[ci]? = some r) (hca : r.1 = E ∨ Cond.castable r.1 E ∈ lw_tbl)
    (kk : fc_X g l y cc nL ret d n0 s0 (fc_put M a i (.ref (fc_B g + x))) (pc + 1) L st Q) : fc_X g l y cc nL ret d n0 s0 M pc L (.ref (fc_B g + x) :: .int (nI i) :: .ref (fc_B g + a) :: st) Q := by
  obtain ⟨o, Mf, hQ, hb0, hE⟩ := kk
  refine ⟨o, Mf, hQ, hb0, fun R p e s m args below meth c H ls locs hSt h1 h2 hR hS hL => ?_⟩
  obtain ⟨hx', hb, hml, hown, hrt, hlk, hts, hnm, henv, hrm, hz0⟩ := id hSt
  obtain ⟨g1, g2⟩ := fc_arr hR ha hs
  obtain ⟨-, -, kA, comp, r1, r2, r3, -⟩ := henv.2.1 _ g1
  have h4 := hR.2.2 x hx
  rw [hsx] at h4
  obtain ⟨r', hr', cellV, q1, q2, q3, q4⟩ := h4
  cases hr'.symm.trans hc
  have hcls := (henv.1.1 ci r hc).2
  have hcomp := r3 E rfl
  obtain ⟨kE, hkE, -⟩ := Vm.findClass_spec hcomp
  obtain ⟨kC, hkC, -⟩ := hcls.2
  have hasg : s.vm.assignable ((fc_D g).1 ci) comp = true := by
    rcases hca with z | z
    · have e9 : comp = (fc_D g).1 ci := Option.some.inj (hcomp.symm.trans (by rw [← z]; exact hcls.1))
      rw [e9]
      exact va_assign hcls
    · obtain ⟨c0, t1, f1, f2, f3⟩ := Cond.castable_spec (va_Nw.use (A := args) rfl (henv.2.2.1.2.2.1 _ _ z))
      have e1 := Option.some.inj (hcls.1.symm.trans f1)
      have e2 := Option.some.inj (hcomp.symm.trans f2)
      rw [e1, e2]
      exact f3
  refine W.aast hx' hb g2 (fun q h => by cases h) (fun h => by cases h) r1 r2 rfl hkE ⟨fun z => absurd z (nI_pos (by omega)), by show _ < (arrV _ _ _).slots.size; rw [arrV_size, nI_clamp (by omega)]; exact hi⟩ q1 (fun q h => by rw [q3] at h; cases h) (by rw [q2]; exact hkC) (by rw [q2]; exact hasg) rfl rfl hd fun H' e1 e2 e3 => ?_
  refine hE R p e s m args below meth c H' ls _ hSt h1 h2 (fc_R_put hR ha ?_ e2 e3) (hS.put e2 e3 (Nat.le_add_right _ _)) hL
  rw [hs]
  refine ⟨g1, ?_⟩
  rw [e1, nI_clamp (by omega), arrV_store]
/-- a constant string laid into an array -/
theorem x_aastK {a n i q : Nat} {E : String} (hd : decode cc pc = .ok (.aastore, 1)) (ha : a < fc_nx M) (hs : fc_sh M a = .inr (.object E, n)) (hn : n < 2 ^ 31) (hi : i < n) (hO : ∀ U, fc_Env g U → va_O E q (fc_A g) U (fc_H0 g))
    (kk : fc_X g l y cc nL ret d n0 s0 (fc_put M a i (.ref q)) (pc + 1) L st Q) : fc_X g l y cc nL ret d n0 s0 M pc L (.ref q :: .int (nI i) :: .ref (fc_B g + a) :: st) Q := by
  obtain ⟨o, Mf, hQ, hb0, hE⟩ := kk
  refine ⟨o, Mf, hQ, hb0, fun R p e s m args below meth c H ls locs hSt h1 h2 hR hS hL => ?_⟩
  obtain ⟨hx', hb, hml, hown, hrt, hlk, hts, hnm, henv, hrm, hz0⟩ := id hSt
  obtain ⟨g1, g2⟩ := fc_arr hR ha hs
  obtain ⟨-, -, kA, comp, r1, r2, r3, -⟩ := henv.2.1 _ g1
  obtain ⟨cellV, q1, q2, q3, q4⟩ := hO s henv
  have hq : H[q]? = some cellV := by rw [hR.2.1 q (Nat.lt_of_not_le q4)]; exact q1
  have hcomp := r3 E rfl
  obtain ⟨kE, hkE, hkEn⟩ := Vm.findClass_spec hcomp
  have e9 : comp = cellV.cls := Option.some.inj (hcomp.symm.trans q3)
  have hasg : s.vm.assignable cellV.cls comp = true := by
    rw [e9]
    show (cellV.cls == cellV.cls || _) = true
    rw [beq_self_eq_true, Bool.true_or]
  refine W.aast hx' hb g2 (fun q h => by cases h) (fun h => by cases h) r1 r2 rfl hkE ⟨fun z => absurd z (nI_pos (by omega)), by show _ < (arrV _ _ _).slots.size; rw [arrV_size, nI_clamp (by omega)]; exact hi⟩ hq (fun q h => by rw [h] at q2; cases q2) (by rw [← e9]; exact hkE) hasg rfl rfl hd fun H' e1 e2 e3 => ?_
  refine hE R p e s m args below meth c H' ls _ hSt h1 h2 (fc_R_put hR ha ?_ e2 e3) (hS.put e2 e3 (Nat.le_add_right _ _)) hL
  rw [hs]
  refine ⟨g1, ?_⟩
  rw [e1, nI_clamp (by omega), arrV_store]
end T99ZZL
