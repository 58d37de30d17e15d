set_option maxRecDepth 100000
section T99ZZE
variable {g : fc_G} {l : Launch} {M : fc_M} {S : tT} {U : tU}
theorem x_I0 {y : MethodName} {cc : ByteArray} {nL : Nat} {ret : Option FieldType} {d n0 s0 : Nat} {pc : Nat} {L : List (Option Value)} {Q : Outcome → fc_M → Prop} {y2 : MethodName} {c2 : ByteArray} {n2 d2 b i : Nat} {rest : List Value} {M2 : fc_M} (hd : decode cc pc = .ok (.invokespecial i, 3)) (hc : Cond.code y2 c2 n2 none ∈ lw_all) (hini : Cond.initialized y2.cls ∈ lw_all) (hl : Cond.methodLink y.cls i y2 ∈ lw_all) (hin : Cond.instanceMethod y2 ∈ lw_all) (hy1 : y2.name = "<init>") (hpar : kPar y2 0) (hdd : d2 + 1 ≤ d) (hn2 : n2 ≤ 45) (hrest : (rest.map fun v => v.category).sum ≤ 8) (hC : fc_CX g l y2 c2 n2 none d2 [.ref (fc_B g + b)] M (fc_rn M2)) (kk : fc_X g l y cc nL ret d n0 s0 M2 (pc + 3) L rest Q) : fc_X g l y cc nL ret d n0 s0 M pc L (.ref (fc_B g + b) :: rest) Q := by
  obtain ⟨o2, M3, ⟨ho, hM⟩, hC2⟩ := hC
  subst hM
  exact fc_callI (As := []) hd (lw_meth hc) hini hl hin hy1 hpar.2 hdd hn2 hrest rfl hC2 ho kk
theorem x_I1 {y : MethodName} {cc : ByteArray} {nL : Nat} {ret : Option FieldType} {d n0 s0 : Nat} {pc : Nat} {L : List (Option Value)} {Q : Outcome → fc_M → Prop} {y2 : MethodName} {c2 : ByteArray} {n2 d2 b i : Nat} {rest : List Value} {M2 : fc_M} {a1 : Value} (hd : decode cc pc = .ok (.invokespecial i, 3)) (hc : Cond.code y2 c2 n2 none ∈ lw_all) (hini : Cond.initialized y2.cls ∈ lw_all) (hl : Cond.methodLink y.cls i y2 ∈ lw_all) (hin : Cond.instanceMethod y2 ∈ lw_all) (hy1 : y2.name = "<init>") (hpar : kPar y2 1) (hdd : d2 + 1 ≤ d) (hn2 : n2 ≤ 45) (hrest : (rest.map fun v => v.category).sum ≤ 8) (hC : fc_CX g l y2 c2 n2 none d2 [.ref (fc_B g + b), a1] M (fc_rn M2)) (kk : fc_X g l y cc nL ret d n0 s0 M2 (pc + 3) L rest Q) : fc_X g l y cc nL ret d n0 s0 M pc L (a1 :: .ref (fc_B g + b) :: rest) Q := by
  obtain ⟨o2, M3, ⟨ho, hM⟩, hC2⟩ := hC
  subst hM
  exact fc_callI (As := [a1]) hd (lw_meth hc) hini hl hin hy1 hpar.2 hdd hn2 hrest rfl hC2 ho kk
theorem x_I2 {y : MethodName} {cc : ByteArray} {nL : Nat} {ret : Option FieldType} {d n0 s0 : Nat} {pc : Nat} {L : List (Option Value)} {Q : Outcome → fc_M → Prop} {y2 : MethodName} {c2 : ByteArray} {n2 d2 b i : Nat} {rest : List Value} {M2 : fc_M} {a1 a2 : Value} (hd : decode cc pc = .ok (.invokespecial i, 3)) (hc : Cond.code y2 c2 n2 none ∈ lw_all) (hini : Cond.initialized y2.cls ∈ lw_all) (hl : Cond.methodLink y.cls i y2 ∈ lw_all) (hin : Cond.instanceMethod y2 ∈ lw_all) (hy1 : y2.name = "<init>") (hpar : kPar y2 2) (hdd : d2 + 1 ≤ d) (hn2 : n2 ≤ 45) (hrest : (rest.map fun v => v.category).sum ≤ 8) (hC : fc_CX g l y2 c2 n2 none d2 [.ref (fc_B g + b), a1, a2] M (fc_rn M2)) (kk : fc_X g l y cc nL ret d n0 s0 M2 (pc + 3) L rest Q) : fc_X g l y cc nL ret d n0 s0 M pc L (a2 :: a1 :: .ref (fc_B g + b) :: rest) Q := by
  obtain ⟨o2, M3, ⟨ho, hM⟩, hC2⟩ := hC
  subst hM
  exact fc_callI (As := [a1, a2]) hd (lw_meth hc) hini hl hin hy1 hpar.2 hdd hn2 hrest rfl hC2 ho kk
theorem x_I3 {y : MethodName} {cc : ByteArray} {nL : Nat} {ret : Option FieldType} {d n0 s0 : Nat} {pc : Nat} {L : List (Option Value)} {Q : Outcome → fc_M → Prop} {y2 : MethodName} {c2 : ByteArray} {n2 d2 b i : Nat} {rest : List Value} {M2 : fc_M} {a1 a2 a3 : Value} (hd : decode cc pc = .ok (.invokespecial i, 3)) (hc : Cond.code y2 c2 n2 none ∈ lw_all) (hini : Cond.initialized y2.cls ∈ lw_all) (hl : Cond.methodLink y.cls i y2 ∈ lw_all) (hin : Cond.instanceMethod y2 ∈ lw_all) (hy1 : y2.name = "<init>") (hpar : kPar y2 3) (hdd : d2 + 1 ≤ d) (hn2 : n2 ≤ 45) (hrest : (rest.map fun v => v.category).sum ≤ 8) (hC : fc_CX g l y2 c2 n2 none d2 [.ref (fc_B g + b), a1, a2, a3] M (fc_rn M2)) (kk : fc_X g l y cc nL ret d n0 s0 M2 (pc + 3) L rest Q) : fc_X g l y cc nL ret d n0 s0 M pc L (a3 :: a2 :: a1 :: .ref (fc_B g + b) :: rest) Q := by
  obtain ⟨o2, M3, ⟨ho, hM⟩, hC2⟩ := hC
  subst hM
  exact fc_callI (As := [a1, a2, a3]) hd (lw_meth hc) hini hl hin hy1 hpar.2 hdd hn2 hrest rfl hC2 ho kk
theorem x_I4 {y : MethodName} {cc : ByteArray} {nL : Nat} {ret : Option FieldType} {d n0 s0 : Nat} {pc : Nat} {L : List (Option Value)} {Q : Outcome → fc_M → Prop} {y2 : MethodName} {c2 : ByteArray} {n2 d2 b i : Nat} {rest : List Value} {M2 : fc_M} {a1 a2 a3 a4 : Value} (hd : decode cc pc = .ok (.invokespecial i, 3)) (hc : Cond.code y2 c2 n2 none ∈ lw_all) (hini : Cond.initialized y2.cls ∈ lw_all) (hl : Cond.methodLink y.cls i y2 ∈ lw_all) (hin : Cond.instanceMethod y2 ∈ lw_all) (hy1 : y2.name = "<init>") (hpar : kPar y2 4) (hdd : d2 + 1 ≤ d) (hn2 : n2 ≤ 45) (hrest : (rest.map fun v => v.category).sum ≤ 8) (hC : fc_CX g l y2 c2 n2 none d2 [.ref (fc_B g + b), a1, a2, a3, a4] M (fc_rn M2)) (kk : fc_X g l y cc nL ret d n0 s0 M2 (pc + 3) L rest Q) : fc_X g l y cc nL ret d n0 s0 M pc L (a4 :: a3 :: a2 :: a1 :: .ref (fc_B g + b) :: rest) Q := by
  obtain ⟨o2, M3, ⟨ho, hM⟩, hC2⟩ := hC
  subst hM
  exact fc_callI (As := [a1, a2, a3, a4]) hd (lw_meth hc) hini hl hin hy1 hpar.2 hdd hn2 hrest rfl hC2 ho kk
theorem x_I0N {y : MethodName} {cc : ByteArray} {nL : Nat} {ret : Option FieldType} {d n0 s0 : Nat} {pc : Nat} {L : List (Option Value)} {Q : Outcome → fc_M → Prop} {y2 : MethodName} {c2 : ByteArray} {n2 d2 b i : Nat} {rest : List Value} {M2 : fc_M} (hd : decode cc pc = .ok (.invokespecial i, 3)) (hc : Cond.code y2 c2 n2 none ∈ lw_all) (hini : Cond.initialized y2.cls ∈ lw_all) {host : String} (hl : Cond.methodLinkNest y.cls i y2 host ∈ lw_tbl) (hin : Cond.instanceMethod y2 ∈ lw_all) (hy1 : y2.name = "<init>") (hpar : kPar y2 0) (hdd : d2 + 1 ≤ d) (hn2 : n2 ≤ 45) (hrest : (rest.map fun v => v.category).sum ≤ 8) (hC : fc_CX g l y2 c2 n2 none d2 [.ref (fc_B g + b)] M (fc_rn M2)) (kk : fc_X g l y cc nL ret d n0 s0 M2 (pc + 3) L rest Q) : fc_X g l y cc nL ret d n0 s0 M pc L (.ref (fc_B g + b) :: rest) Q := by
  obtain ⟨o2, M3, ⟨ho, hM⟩, hC2⟩ := hC
  subst hM
  exact fc_callIN (As := []) hd (lw_meth hc) hini hl hin hy1 hpar.2 hdd hn2 hrest rfl hC2 ho kk
theorem x_getZr {y : MethodName} {cc : ByteArray} {nL : Nat} {ret : Option FieldType} {d n0 s0 : Nat} {pc : Nat} {L : List (Option Value)} {st : List Value} {i : Nat} {C n t : String} {o0 : Outcome} {M0 : fc_M} (hd : decode cc pc = .ok (.getstatic i, 3)) (hE : ∀ U, fc_Env g U → va_Zq C n t (fc_A g) U (fc_H0 g)) (hq : Cond.fieldLink y.cls i C n t ∈ lw_all)
    (kk : ∀ v : Value, (v = .null ∨ ∃ t, v = .ref t) → fc_X g l y cc nL ret d n0 s0 M (pc + 3) L (v :: st) (fun o M2 => o = o0 ∧ M2 = M0)) : fc_X g l y cc nL ret d n0 s0 M pc L st (fun o M2 => o = o0 ∧ M2 = M0) := by
  have k2 : ∀ v : Value, (v = .null ∨ ∃ t, v = .ref t) → fc_E g l y cc nL ret d n0 s0 o0 M0 M (pc + 3) L (v :: st) := fun v hv => by
    obtain ⟨o, Mf, ⟨h1, h2⟩, h3⟩ := kk v hv
    subst h1
    subst h2
    exact h3
  refine ⟨o0, M0, ⟨rfl, rfl⟩, (k2 .null (Or.inl rfl)).1, fun R p e s m args below meth c H ls locs hSt h1 h2 hR hS hL => ?_⟩
  obtain ⟨hx, hb, hml, hown, hrt, hlk, hts, hnm, henv, -, hsz, hold, -⟩ := id hSt
  rcases hE s henv with z | ⟨t, z⟩
  · exact va_gets hx hb (z.kept (fun a _ h => hold a (Nat.lt_of_not_le h))) hS hown (hts _ hq) (fun x h => h) hd ((k2 .null (Or.inl rfl)).2 R p e s m args below meth c H ls locs hSt h1 h2 hR hS hL)
  · exact va_gets hx hb (z.kept (fun a _ h => hold a (Nat.lt_of_not_le h))) hS hown (hts _ hq) (fun x h => h) hd ((k2 (.ref t) (Or.inr ⟨t, rfl⟩)).2 R p e s m args below meth c H ls locs hSt h1 h2 hR hS hL)
theorem x_aload_nN {y : MethodName} {cc : ByteArray} {nL : Nat} {ret : Option FieldType} {d n0 s0 : Nat} {pc : Nat} {L : List (Option Value)} {Q : Outcome → fc_M → Prop} {st : List Value} {j : Fin 4} (hd : decode cc pc = .ok (.aload_n j, 1)) (hl : L[(j : Nat)]? = some (some .null)) (k : fc_X g l y cc nL ret d n0 s0 M (pc + 1) L (.null :: st) Q) : fc_X g l y cc nL ret d n0 s0 M pc L st Q := fc_go (fun R p e s m args below meth c H ls locs cells slots Qs Mf hSt hR hS hL k => lv_aload_nN hSt.1 hSt.2.1 hd rfl (hL.2.2 _ _ hl) k) k
theorem kP_X8_init : kPar yX8_init 0 := by decide +kernel
theorem kP_X9_init : kPar yX9_init 1 := by decide +kernel
theorem kP_X10_init : kPar yX10_init 1 := by decide +kernel
theorem kP_X11_init : kPar yX11_init 3 := by decide +kernel
theorem kP_X12_init : kPar yX12_init 1 := by decide +kernel
theorem kP_X7_init : kPar yX7_init 2 := by decide +kernel
theorem kP_J7_init : kPar yJ7_init 4 := by decide +kernel
theorem kP_J6_init_2 : kPar yJ6_init_2 4 := by decide +kernel
theorem fts_arr {v : Value} {t : FieldType} (h : v = .null ∨ ∃ t, v = .ref t) : fits (.array t) v = true ∧ narrow (.array t) v = v := by
  rcases h with rfl | ⟨t, rfl⟩ <;> exact ⟨rfl, rfl⟩
theorem fts_obj {v : Value} {t : String} (h : v = .null ∨ ∃ t, v = .ref t) : fits (.object t) v = true ∧ narrow (.object t) v = v := by
  rcases h with rfl | ⟨t, rfl⟩ <;> exact ⟨rfl, rfl⟩
set_option maxHeartbeats 1000000 in
theorem d_iTerm {a : Nat} : fc_CX g l yX8_init cX8_init 1 (none) 1 [.ref (fc_B g + a)] (M) (fc_rn M) := by
  refine fc_enter (by decide) (Nat.le_of_ble_eq_true rfl) rfl ?_
  refine x_aload_n dX8_init_0 rfl ?_
  refine x_obj dX8_init_1 q745 q150 q151 (by omega) (Nat.le_of_ble_eq_true rfl) ?_
  exact x_vret dX8_init_4 rfl fc_rn.of
set_option maxHeartbeats 1000000 in
theorem d_iNumber {a : Nat} (ha : a < fc_nx M) (hs : fc_sh M a = .inl 8) {v : Int32} : fc_CX g l yX9_init cX9_init 2 (none) 2 [.ref (fc_B g + a), .int v] (cl M S U) (fc_rn (cl M (tu S a 0 v) U)) := by
  refine fc_enter (by decide) (Nat.le_of_ble_eq_true rfl) rfl ?_
  refine x_aload_n dX9_init_0 rfl ?_
  refine x_I0N dX9_init_1 q744 q136 q742 q743 rfl kP_X8_init (by omega) (by decide) (Nat.le_of_ble_eq_true rfl) d_iTerm ?_
  refine x_aload_n dX9_init_4 rfl ?_
  refine x_iload_n dX9_init_5 rfl ?_
  refine x_putF 8 0 dX9_init_6 (C := RX9) (T := TX9) (N := 1) rfl (by decide) q746 rfl rfl rfl rfl rfl (by exact ha) (by exact hs) ?_
  rw [cl_puti (by first | (rw [hs]; rfl) | (show kdO (fc_sh M a) _ = 1; rw [hs]; rfl))]
  exact x_vret dX9_init_9 rfl fc_rn.of
set_option maxHeartbeats 1000000 in
theorem d_iWord {a : Nat} (ha : a < fc_nx M) (hs : fc_sh M a = .inl 9) {v : Int32} : fc_CX g l yX10_init cX10_init 2 (none) 2 [.ref (fc_B g + a), .int v] (cl M S U) (fc_rn (cl M (tu S a 0 v) U)) := by
  refine fc_enter (by decide) (Nat.le_of_ble_eq_true rfl) rfl ?_
  refine x_aload_n dX10_init_0 rfl ?_
  refine x_I0N dX10_init_1 q744 q136 q755 q743 rfl kP_X8_init (by omega) (by decide) (Nat.le_of_ble_eq_true rfl) d_iTerm ?_
  refine x_aload_n dX10_init_4 rfl ?_
  refine x_iload_n dX10_init_5 rfl ?_
  refine x_putF 9 0 dX10_init_6 (C := RX10) (T := TX10) (N := 1) rfl (by decide) q756 rfl rfl rfl rfl rfl (by exact ha) (by exact hs) ?_
  rw [cl_puti (by first | (rw [hs]; rfl) | (show kdO (fc_sh M a) _ = 1; rw [hs]; rfl))]
  exact x_vret dX10_init_9 rfl fc_rn.of
set_option maxHeartbeats 1000000 in
theorem d_iNot {a : Nat} (ha : a < fc_nx M) (hs : fc_sh M a = .inl 11) {x : Nat} : fc_CX g l yX12_init cX12_init 2 (none) 2 [.ref (fc_B g + a), .ref x] (cl M S U) (fc_rn (cl (fc_put M a 0 (.ref x)) S U)) := by
  refine fc_enter (by decide) (Nat.le_of_ble_eq_true rfl) rfl ?_
  refine x_aload_n dX12_init_0 rfl ?_
  refine x_I0N dX12_init_1 q744 q136 q805 q743 rfl kP_X8_init (by omega) (by decide) (Nat.le_of_ble_eq_true rfl) d_iTerm ?_
  refine x_aload_n dX12_init_4 rfl ?_
  refine x_aload_n dX12_init_5 rfl ?_
  refine x_putF 11 0 dX12_init_6 (C := RX12) (T := TX12) (N := 1) rfl (by decide) q806 rfl rfl rfl rfl rfl (by exact ha) (by exact hs) ?_
  rw [cl_putr (by show kdO (fc_sh M a) _ = 0; rw [hs]; rfl)]
  exact x_vret dX12_init_9 rfl fc_rn.of
set_option maxHeartbeats 1000000 in
theorem d_iTwo {a : Nat} (ha : a < fc_nx M) (hs : fc_sh M a = .inl 10) {c : Int32} (hn : narrow .char (.int c) = .int c) (hft : fits .char (.int c) = true) {x y : Nat} : fc_CX g l yX11_init cX11_init 4 (none) 2 [.ref (fc_B g + a), .int c, .ref x, .ref y] (cl M S U) (fc_rn (cl (fc_put (fc_put M a 1 (.ref x)) a 2 (.ref y)) (tu S a 0 c) U)) := by
  refine fc_enter (by decide) (Nat.le_of_ble_eq_true rfl) rfl ?_
  refine x_aload_n dX11_init_0 rfl ?_
  refine x_I0N dX11_init_1 q744 q136 q769 q743 rfl kP_X8_init (by omega) (by decide) (Nat.le_of_ble_eq_true rfl) d_iTerm ?_
  refine x_aload_n dX11_init_4 rfl ?_
  refine x_iload_n dX11_init_5 rfl ?_
  refine x_putF 10 0 dX11_init_6 (C := RX11) (T := TX11) (N := 3) rfl (by decide) q770 rfl rfl rfl hn hft (by exact ha) (by exact hs) ?_
  rw [cl_puti (by first | (rw [hs]; rfl) | (show kdO (fc_sh M a) _ = 1; rw [hs]; rfl))]
  refine x_aload_n dX11_init_9 rfl ?_
  refine x_aload_n dX11_init_10 rfl ?_
  refine x_putF 10 1 dX11_init_11 (C := RX11) (T := TX11) (N := 3) rfl (by decide) q771 rfl rfl rfl rfl rfl (by exact ha) (by exact hs) ?_
  rw [cl_putr (by show kdO (fc_sh M a) _ = 0; rw [hs]; rfl)]
  refine x_aload_n dX11_init_14 rfl ?_
  refine x_aload_n dX11_init_15 rfl ?_
  refine x_putF 10 2 dX11_init_16 (C := RX11) (T := TX11) (N := 3) rfl (by decide) q772 rfl rfl rfl rfl rfl (by exact ha) (by exact hs) ?_
  rw [cl_putr (by show kdO (fc_sh M a) _ = 0; rw [hs]; rfl)]
  exact x_vret dX11_init_19 rfl fc_rn.of
def flt (M : fc_M) (a : Nat) : fc_M := (M.1, M.2.1, fun b k => if b = a ∧ k < 4 then .null else M.2.2 b k)
theorem flt_of {a : Nat} {v0 v1 v2 v3 : Value} : fc_put (fc_put (fc_put (fc_put (fc_put (fc_put (fc_put M a 0 v0) a 1 v1) a 2 v2) a 1 .null) a 3 v3) a 0 .null) a 2 .null = (M.1, M.2.1, fun b k => if b = a ∧ k < 4 then (if k = 3 then v3 else .null) else M.2.2 b k) := by
  refine Prod.ext rfl (Prod.ext rfl (funext fun b => funext fun k => ?_))
  show (if b = a ∧ k = 2 then Value.null else if b = a ∧ k = 0 then .null else if b = a ∧ k = 3 then v3 else if b = a ∧ k = 1 then .null else if b = a ∧ k = 2 then v2 else if b = a ∧ k = 1 then v1 else if b = a ∧ k = 0 then v0 else M.2.2 b k) = (if b = a ∧ k < 4 then (if k = 3 then v3 else .null) else M.2.2 b k)
  by_cases e : b = a
  · simp only [e, true_and]
    by_cases h0 : k = 0
    · simp [h0]
    · by_cases h1 : k = 1
      · simp [h1]
      · by_cases h2 : k = 2
        · simp [h2]
        · by_cases h3 : k = 3
          · simp [h3]
          · rw [if_neg h2, if_neg h0, if_neg h3, if_neg h1, if_neg h2, if_neg h1, if_neg h0, if_neg (show ¬ k < 4 by omega)]
  · simp only [e, false_and, if_false]
theorem flt_of2 {a : Nat} {v0 v1 v2 : Value} : fc_put (fc_put (fc_put (fc_put (fc_put (fc_put (fc_put M a 0 v0) a 1 v1) a 2 v2) a 1 .null) a 3 .null) a 0 .null) a 2 .null = flt M a := by
  rw [flt_of]
  refine Prod.ext rfl (Prod.ext rfl (funext fun b => funext fun k => ?_))
  show (if b = a ∧ k < 4 then (if k = 3 then Value.null else .null) else M.2.2 b k) = (if b = a ∧ k < 4 then .null else M.2.2 b k)
  by_cases h : b = a ∧ k < 4
  · rw [if_pos h, if_pos h]; split <;> rfl
  · rw [if_neg h, if_neg h]
set_option maxHeartbeats 1000000 in
theorem d_iThr {a : Nat} (ha : a < fc_nx M) (hs : fc_sh M a = .inl 7) : fc_CX g l yJ6_init_2 cJ6_init_2 5 (none) 1 [.ref (fc_B g + a), .null, .null, .int (nI 0), .int (nI 0)] (cl M S U) (fc_rn (cl (flt M a) S U)) := by
  refine fc_enter (by decide) (Nat.le_of_ble_eq_true rfl) rfl ?_
  refine x_aload_n dJ6_init_2_0 rfl ?_
  refine x_obj dJ6_init_2_1 q681 q150 q151 (by omega) (Nat.le_of_ble_eq_true rfl) ?_
  refine x_aload_n dJ6_init_2_4 rfl ?_
  refine x_aload_n dJ6_init_2_5 rfl ?_
  refine x_putf 7 0 dJ6_init_2_6 (C := RX7) (T := TX7) (N := 8) rfl (by decide) q710 rfl rfl rfl (by exact ha) (by exact hs) ?_
  rw [cl_putr (by show kdO (fc_sh M a) _ = 0; rw [hs]; rfl)]
  refine x_aload_n dJ6_init_2_9 rfl ?_
  refine x_getZr dJ6_init_2_10 (fun U h => h.2.2.2.2.2.2.2.1) q682 (fun v1 hv1 => ?_)
  refine x_putf 7 1 dJ6_init_2_13 (C := RX7) (T := TX7) (N := 8) rfl (by decide) q711 rfl (fts_arr hv1).2 (fts_arr hv1).1 (by exact ha) (by exact hs) ?_
  rw [cl_putr (by show kdO (fc_sh M a) _ = 0; rw [hs]; rfl)]
  refine x_aload_n dJ6_init_2_16 rfl ?_
  refine x_getZr dJ6_init_2_17 (fun U h => h.2.2.2.2.2.2.2.2.1) q684 (fun v2 hv2 => ?_)
  refine x_putf 7 2 dJ6_init_2_20 (C := RX7) (T := TX7) (N := 8) rfl (by decide) q712 rfl (fts_obj hv2).2 (fts_obj hv2).1 (by exact ha) (by exact hs) ?_
  rw [cl_putr (by show kdO (fc_sh M a) _ = 0; rw [hs]; rfl)]
  refine x_iload dJ6_init_2_23 rfl ?_
  refine x_ifN_eq (tgt := 36) dJ6_init_2_25 (by decide) (by omega) (fun hc25 => ?_) (fun hc25 => ?_)
  · refine x_aload_n dJ6_init_2_36 rfl ?_
    refine x_null dJ6_init_2_37 ?_
    refine x_putf 7 1 dJ6_init_2_38 (C := RX7) (T := TX7) (N := 8) rfl (by decide) q711 rfl rfl rfl (by exact ha) (by exact hs) ?_
    rw [cl_putr (by show kdO (fc_sh M a) _ = 0; rw [hs]; rfl)]
    refine x_aload_n dJ6_init_2_41 rfl ?_
    refine x_aload_nN dJ6_init_2_42 rfl ?_
    refine x_putf 7 3 dJ6_init_2_43 (C := RX7) (T := TX7) (N := 8) rfl (by decide) q709 rfl rfl rfl (by exact ha) (by exact hs) ?_
    rw [cl_putr (by show kdO (fc_sh M a) _ = 0; rw [hs]; rfl)]
    refine x_aload_n dJ6_init_2_46 rfl ?_
    refine x_aload_nN dJ6_init_2_47 rfl ?_
    refine x_putf 7 0 dJ6_init_2_48 (C := RX7) (T := TX7) (N := 8) rfl (by decide) q710 rfl rfl rfl (by exact ha) (by exact hs) ?_
    rw [cl_putr (by show kdO (fc_sh M a) _ = 0; rw [hs]; rfl)]
    refine x_iload_n dJ6_init_2_51 rfl ?_
    refine x_ifN_ne (tgt := 60) dJ6_init_2_52 (by decide) (by omega) (fun hc52 => ?_) (fun hc52 => ?_)
    · exact absurd hc52 (by decide)
    · refine x_aload_n dJ6_init_2_55 rfl ?_
      refine x_null dJ6_init_2_56 ?_
      refine x_putf 7 2 dJ6_init_2_57 (C := RX7) (T := TX7) (N := 8) rfl (by decide) q712 rfl rfl rfl (by exact ha) (by exact hs) ?_
      rw [cl_putr (by show kdO (fc_sh M a) _ = 0; rw [hs]; rfl)]
      refine x_eqM (congrArg (fun z => cl z S U) flt_of2) ?_
      exact x_vret dJ6_init_2_60 rfl fc_rn.of
  · exact absurd hc25 (by decide)
set_option maxHeartbeats 1000000 in
theorem d_iExc {a : Nat} (ha : a < fc_nx M) (hs : fc_sh M a = .inl 7) : fc_CX g l yJ7_init cJ7_init 5 (none) 2 [.ref (fc_B g + a), .null, .null, .int (nI 0), .int (nI 0)] (cl M S U) (fc_rn (cl (flt M a) S U)) := by
  refine fc_enter (by decide) (Nat.le_of_ble_eq_true rfl) rfl ?_
  refine x_aload_n dJ7_init_0 rfl ?_
  refine x_aload_nN dJ7_init_1 rfl ?_
  refine x_aload_nN dJ7_init_2 rfl ?_
  refine x_iload_n dJ7_init_3 rfl ?_
  refine x_iload dJ7_init_4 rfl ?_
  refine x_I4 dJ7_init_6 q703 q133 q701 q702 rfl kP_J6_init_2 (by omega) (by decide) (Nat.le_of_ble_eq_true rfl) (d_iThr ha hs) ?_
  exact x_vret dJ7_init_9 rfl fc_rn.of
set_option maxHeartbeats 1000000 in
theorem d_iFault {a : Nat} (ha : a < fc_nx M) (hs : fc_sh M a = .inl 7) {x y : Int32} : fc_CX g l yX7_init cX7_init 3 (none) 3 [.ref (fc_B g + a), .int x, .int y] (cl M S U) (fc_rn (cl (flt M a) (tu (tu S a 6 x) a 7 y) U)) := by
  refine fc_enter (by decide) (Nat.le_of_ble_eq_true rfl) rfl ?_
  refine x_aload_n dX7_init_0 rfl ?_
  refine x_null dX7_init_1 ?_
  refine x_null dX7_init_2 ?_
  refine x_ic0 dX7_init_3 ?_
  refine x_ic0 dX7_init_4 ?_
  refine x_I4 dX7_init_5 q700 q134 q698 q699 rfl kP_J7_init (by omega) (by decide) (Nat.le_of_ble_eq_true rfl) (d_iExc ha hs) ?_
  refine x_aload_n dX7_init_8 rfl ?_
  refine x_iload_n dX7_init_9 rfl ?_
  refine x_putF 7 6 dX7_init_10 (C := RX7) (T := TX7) (N := 8) rfl (by decide) q704 rfl rfl rfl rfl rfl (by exact ha) (by exact hs) ?_
  rw [cl_puti (by first | (rw [hs]; rfl) | (show kdO (fc_sh M a) _ = 1; rw [hs]; rfl))]
  refine x_aload_n dX7_init_13 rfl ?_
  refine x_iload_n dX7_init_14 rfl ?_
  refine x_putF 7 7 dX7_init_15 (C := RX7) (T := TX7) (N := 8) rfl (by decide) q706 rfl rfl rfl rfl rfl (by exact ha) (by exact hs) ?_
  rw [cl_puti (by first | (rw [hs]; rfl) | (show kdO (fc_sh M a) _ = 1; rw [hs]; rfl))]
  exact x_vret dX7_init_18 rfl fc_rn.of
end T99ZZE
