set_option maxRecDepth 100000
section T99ZH
variable {g : fc_G} {l : Launch} {y : MethodName} {cc : ByteArray} {nL : Nat} {ret : Option FieldType} {d n0 s0 : Nat} {M : fc_M} {pc : Nat} {L : List (Option Value)} {st : List Value} {Q : Outcome → fc_M → Prop}
theorem fc_L_set2 {ls : Array Slot} {i : Nat} {v : Value} (h : fc_L nL L ls) (hi : i + 1 < nL) (hc : v.category = 2) (hok : fc_ok1 L i = true) : ∃ ls', storeLocals ls i v = some ls' ∧ fc_L nL ((L.set i (some v)).set (i + 1) none) ls' := by
  obtain ⟨h1, h2, h3⟩ := h
  obtain ⟨ls', e1, e2⟩ := lv_store2 (l := []) (v := v) ⟨h1, h2, fun q hq => by cases hq⟩ hi hc
  refine ⟨ls', e1, e2.1, e2.2.1, fun j w hj => ?_⟩
  by_cases hj1 : j = i + 1
  · subst hj1
    exfalso
    rw [List.getElem?_set] at hj
    simp at hj
  · rw [List.getElem?_set_ne (Ne.symm hj1)] at hj
    by_cases hji : j = i
    · subst hji
      have hl : j < L.length := by
        rcases Nat.lt_or_ge j L.length with q | q
        · exact q
        · rw [List.set_eq_of_length_le q] at hj
          rw [List.getElem?_eq_none q] at hj
          cases hj
      rw [List.getElem?_set_self hl] at hj
      cases hj
      exact e2.2.2 (j, v) List.mem_cons_self
    · rw [List.getElem?_set_ne (Ne.symm hji)] at hj
      obtain ⟨ls2, f1, f2⟩ := lv_store2 (l := [(j, w)]) (v := v) ⟨h1, h2, fun q hq => by rw [List.mem_singleton.mp hq]; exact h3 j w hj⟩ hi hc
      rw [e1] at f1
      cases f1
      refine f2.2.2 (j, w) (List.mem_cons_of_mem _ (List.mem_filter.mpr ⟨List.mem_singleton.mpr rfl, ?_⟩))
      by_cases hj2 : j + 1 = i
      · subst hj2
        have : w.category = 1 := by
          simp only [fc_ok1, hj] at hok
          cases w <;> first | rfl | (simp at hok)
        simp [this]
        omega
      · simp [hji, hj1, hj2]
theorem x_lstore {i : Nat} {v : Int64} (hd : decode cc pc = .ok (.lstore i, 2)) (hi : i + 1 < nL) (hok : fc_ok1 L i = true) (k : fc_X g l y cc nL ret d n0 s0 M (pc + 2) ((L.set i (some (.long v))).set (i + 1) none) st Q) : fc_X g l y cc nL ret d n0 s0 M pc L (.long v :: st) Q := by
  obtain ⟨o, Mf, hQ, hb, hE⟩ := k
  refine ⟨o, Mf, hQ, hb, fun R p e s m args below meth c H ls locs hSt h1 h2 hR hS hL => ?_⟩
  obtain ⟨ls', e1, e2⟩ := fc_L_set2 (v := .long v) hL hi rfl hok
  have kk := hE R p e s m args below meth c H ls' locs hSt h1 h2 hR hS e2
  have hx := hSt.1
  have hb' := hSt.2.1
  intro T hT X
  obtain ⟨t, a, b⟩ := kk T hT X
  refine ⟨t, ?_, b⟩
  jvm_step X.here [X.here.top, ↓top_set X.here.top, hx, hb', hd, e1]
  exact a
theorem x_lstore_n {i : Fin 4} {v : Int64} (hd : decode cc pc = .ok (.lstore_n i, 1)) (hi : (i : Nat) + 1 < nL) (hok : fc_ok1 L (i : Nat) = true) (k : fc_X g l y cc nL ret d n0 s0 M (pc + 1) ((L.set (i : Nat) (some (.long v))).set ((i : Nat) + 1) none) st Q) : fc_X g l y cc nL ret d n0 s0 M pc L (.long v :: st) Q := by
  obtain ⟨o, Mf, hQ, hb, hE⟩ := k
  refine ⟨o, Mf, hQ, hb, fun R p e s m args below meth c H ls locs hSt h1 h2 hR hS hL => ?_⟩
  obtain ⟨ls', e1, e2⟩ := fc_L_set2 (v := .long v) hL hi rfl hok
  have kk := hE R p e s m args below meth c H ls' locs hSt h1 h2 hR hS e2
  have hx := hSt.1
  have hb' := hSt.2.1
  intro T hT X
  obtain ⟨t, a, b⟩ := kk T hT X
  refine ⟨t, ?_, b⟩
  jvm_step X.here [X.here.top, ↓top_set X.here.top, hx, hb', hd, e1]
  exact a
theorem lcm_lt {x z : Int64} : (lcm x z < 0) ↔ x < z := by
  unfold lcm
  by_cases h2 : z < x
  · rw [if_pos h2]
    exact ⟨fun h => absurd h (by decide), fun h => absurd (Int64.lt_iff_toInt_lt.mp h) (by have := Int64.lt_iff_toInt_lt.mp h2; omega)⟩
  · rw [if_neg h2]
    by_cases h3 : x = z
    · rw [if_pos h3]
      exact ⟨fun h => absurd h (by decide), fun h => absurd (h3 ▸ h) h2⟩
    · rw [if_neg h3]
      refine ⟨fun _ => Int64.lt_iff_toInt_lt.mpr ?_, fun _ => by decide⟩
      have a := mt Int64.lt_iff_toInt_lt.mpr h2
      have b : x.toInt ≠ z.toInt := fun e => h3 (Int64.toInt_inj.mp e)
      omega
end T99ZH
