set_option maxRecDepth 100000
section T99ZZO
variable {g : fc_G} {l : Launch} {M M0 : fc_M} {S S0 : tT} {U : tU} {E : tEn} {q : tTk}
theorem pUn_n {r : tTk × tLs} (hv : tkv E.2.2 q) (h : pUn E q = .ok r) : r.2.length + q.1 ≤ r.1.1 := by
  unfold pUn at h
  split at h
  · rename_i c
    cases h
    have := nxt_lt hv (fun z => absurd (c.symm.trans z) (by decide))
    show 1 + q.1 ≤ (nxt E q).1
    omega
  · split at h
    · rename_i c
      cases h
      have := nxt_lt hv (fun z => by rw [z] at c; exact absurd c (by decide))
      show 1 + q.1 ≤ (nxt E q).1
      omega
    · cases h
theorem pPL_n : ∀ (k : Nat) (q : tTk) (ps : tLs) {r : tTk × tLs}, tkv E.2.2 q → pPL E k q ps = .ok r → r.2.length + q.1 ≤ r.1.1 + ps.length
  | 0, q, ps, r, hv, h => by cases h; exact Nat.le_of_eq (Nat.add_comm _ _)
  | k + 1, q, ps, r, hv, h => by
    have v1 := (nxt_v hv).1
    rw [pPL] at h
    split at h
    · rename_i c
      have l1 := nxt_lt hv (fun z => absurd (c.symm.trans z) (by decide))
      split at h
      · rename_i c2
        have l2 := nxt_lt v1 (fun z => absurd (c2.symm.trans z) (by decide))
        split at h
        · cases h
        · have z := pPL_n k _ _ (nxt_v v1).1 h
          rw [List.length_append] at z
          have z2 : [(nI 16, (nxt E q).2.2.2)].length = 1 := rfl
          omega
      · cases h
    · split at h
      · rename_i c
        have l1 := nxt_lt hv (fun z => absurd (c.symm.trans z) (by decide))
        cases hu : pUn E (nxt E q) with
        | error e => rw [hu] at h; cases h
        | ok u =>
          rw [hu] at h
          have z0 := pUn_v v1 hu
          have z1 := pUn_n v1 hu
          have z := pPL_n k _ _ z0.1 h
          rw [List.length_append, List.length_append] at z
          have z2 : [(nI 15, nI 0)].length = 1 := rfl
          omega
      · cases h; exact Nat.le_of_eq (Nat.add_comm _ _)
theorem pPr_n {r : tTk × tLs} (hv : tkv E.2.2 q) (h : pPr E q = .ok r) : r.2.length + q.1 ≤ r.1.1 := by
  unfold pPr at h
  cases hu : pUn E q with
  | error e => rw [hu] at h; cases h
  | ok u =>
    rw [hu] at h
    have z0 := pUn_v hv hu
    have z1 := pUn_n hv hu
    have z := pPL_n 401 _ _ z0.1 h
    omega
theorem pSL_n : ∀ (k : Nat) (q : tTk) (ps : tLs) {r : tTk × tLs}, tkv E.2.2 q → pSL E k q ps = .ok r → r.2.length + q.1 ≤ r.1.1 + ps.length
  | 0, q, ps, r, hv, h => by cases h; exact Nat.le_of_eq (Nat.add_comm _ _)
  | k + 1, q, ps, r, hv, h => by
    have v1 := (nxt_v hv).1
    have key : ∀ c s, q.2.2.1 = nI c → nI c ≠ nI 0 → bindR (pPr E (nxt E q)) (fun p => pSL E k p.1 (ps ++ p.2 ++ [(s, nI 0)])) = .ok r → r.2.length + q.1 ≤ r.1.1 + ps.length := fun c s hc h0 h => by
      have l1 := nxt_lt hv (fun z => h0 (hc.symm.trans z))
      cases hu : pPr E (nxt E q) with
      | error e => rw [hu] at h; cases h
      | ok u =>
        rw [hu] at h
        have z0 := pPr_v v1 hu
        have z1 := pPr_n v1 hu
        have z := pSL_n k _ _ z0.1 h
        rw [List.length_append, List.length_append] at z
        have z2 : [(s, nI 0)].length = 1 := rfl
        omega
    rw [pSL] at h
    split at h
    · rename_i c
      exact key 143 _ c (by decide) h
    · split at h
      · rename_i c
        exact key 145 _ c (by decide) h
      · cases h; exact Nat.le_of_eq (Nat.add_comm _ _)
theorem pSu_n {r : tTk × tLs} (hv : tkv E.2.2 q) (h : pSu E q = .ok r) : r.2.length + q.1 ≤ r.1.1 := by
  unfold pSu at h
  cases hu : pPr E q with
  | error e => rw [hu] at h; cases h
  | ok u =>
    rw [hu] at h
    have z0 := pPr_v hv hu
    have z1 := pPr_n hv hu
    have z := pSL_n 401 _ _ z0.1 h
    omega
def fn (E : tEn) (f : tTk → tRs) : Prop := ∀ (q : tTk) (r : tTk × tLs), tkv E.2.2 q → f q = .ok r → r.2.length + q.1 ≤ r.1.1
theorem chL_n {f : tTk → tRs} {c : Nat} {how : Int32} (h0 : nI c ≠ nI 0) (hf : fv E f) (hf2 : fn E f) : ∀ (k : Nat) (q : tTk) (ps : tLs) {r : tTk × tLs}, tkv E.2.2 q → chL E f (nI c) how k q ps = .ok r → r.2.length + q.1 ≤ r.1.1 + ps.length
  | 0, q, ps, r, hv, h => by cases h; exact Nat.le_of_eq (Nat.add_comm _ _)
  | k + 1, q, ps, r, hv, h => by
    have v1 := (nxt_v hv).1
    rw [chL] at h
    split at h
    · rename_i c
      have l1 := nxt_lt hv (fun z => h0 (c.symm.trans z))
      cases hu : f (nxt E q) with
      | error e => rw [hu] at h; cases h
      | ok u =>
        rw [hu] at h
        have z0 := hf _ _ v1 hu
        have z1 := hf2 _ _ v1 hu
        have z := chL_n h0 hf hf2 k _ _ z0.1 h
        rw [List.length_append, List.length_append] at z
        have z2 : [(how, nI 0)].length = 1 := rfl
        omega
    · cases h; exact Nat.le_of_eq (Nat.add_comm _ _)
theorem chF_n {f : tTk → tRs} {c : Nat} {how : Int32} (h0 : nI c ≠ nI 0) (hf : fv E f) (hf2 : fn E f) : fn E (chF E f (nI c) how) := by
  intro q r hv h
  unfold chF at h
  cases hu : f q with
  | error e => rw [hu] at h; cases h
  | ok u =>
    rw [hu] at h
    have z0 := hf _ _ hv hu
    have z1 := hf2 _ _ hv hu
    have z := chL_n h0 hf hf2 401 _ _ z0.1 h
    omega
theorem pOne_n : ∀ (k dep : Nat), fn E (pOne E k dep)
  | 0, dep => fun q r hv h => by cases h; exact Nat.le_of_eq (Nat.zero_add _)
  | k + 1, dep => fun q r hv h => by
    have v1 := (nxt_v hv).1
    rw [pOne] at h
    split at h
    · rename_i c
      have l1 := nxt_lt hv (fun z => absurd (c.symm.trans z) (by decide))
      split at h
      · cases h
      · cases hu : pOne E k (dep + 1) (nxt E q) with
        | error e => rw [hu] at h; cases h
        | ok u =>
          rw [hu] at h
          have z1 := pOne_n k (dep + 1) _ _ v1 hu
          cases h
          show (u.2 ++ [(nI 20, nI 0)]).length + q.1 ≤ u.1.1
          rw [List.length_append]
          have z2 : [(nI 20, nI 0)].length = 1 := rfl
          omega
    · split at h
      · rename_i c
        have l1 := nxt_lt hv (fun z => absurd (c.symm.trans z) (by decide))
        split at h
        · cases h
        · cases hu : chF E (chF E (pOne E k (dep + 1)) (nI 5) (nI 21)) (nI 4) (nI 22) (nxt E q) with
          | error e => rw [hu] at h; cases h
          | ok u =>
            rw [hu] at h
            have z0 := chF_v (chF_v (pOne_v k (dep + 1))) _ _ v1 hu
            have z1 := chF_n (E := E) (c := 4) (how := nI 22) (by decide) (chF_v (pOne_v k (dep + 1))) (chF_n (c := 5) (how := nI 21) (by decide) (pOne_v k (dep + 1)) (pOne_n k (dep + 1))) _ _ v1 hu
            have h2 : pNd E (nI 141) u = .ok r := h
            unfold pNd at h2
            split at h2
            · cases h2
              have := tkv_le z0.1
              show u.2.length + q.1 ≤ (nxt E u.1).1
              omega
            · cases h2
      · cases hu : pSu E q with
        | error e => rw [hu] at h; cases h
        | ok u =>
          rw [hu] at h
          have z0 := pSu_v _ _ hv hu
          have z1 := pSu_n hv hu
          have h2 : (if pHow u.1.2.2.1 = -1 then .error (nI 1, u.1.1) else bindR (pSu E (nxt E u.1)) (fun p2 => .ok (p2.1, u.2 ++ p2.2 ++ [(pHow u.1.2.2.1, nI 0)]))) = (.ok r : tRs) := h
          split at h2
          · cases h2
          · rename_i c3
            cases hu2 : pSu E (nxt E u.1) with
            | error e => rw [hu2] at h2; cases h2
            | ok u2 =>
              rw [hu2] at h2
              have l1 := nxt_lt z0.1 (fun z => c3 (by rw [z]; decide))
              have z3 := pSu_n (nxt_v z0.1).1 hu2
              cases h2
              show (u.2 ++ u2.2 ++ [(pHow u.1.2.2.1, nI 0)]).length + q.1 ≤ u2.1.1
              rw [List.length_append, List.length_append]
              have z2 : [(pHow u.1.2.2.1, nI 0)].length = 1 := rfl
              omega
theorem pAn_n {r : tTk × tLs} (hv : tkv E.2.2 q) (h : pAn E 9 0 q = .ok r) : r.2.length + q.1 ≤ r.1.1 := chF_n (c := 4) (how := nI 22) (by decide) (chF_v (pOne_v 9 0)) (chF_n (c := 5) (how := nI 21) (by decide) (pOne_v 9 0) (pOne_n 9 0)) _ _ hv h
/-- arrays in the class's memory -/
theorem x_newaC {y : MethodName} {cc : ByteArray} {nL : Nat} {ret : Option FieldType} {d n0 s0 : Nat} {pc : Nat} {L : List (Option Value)} {st : List Value} {Q : Outcome → fc_M → Prop} {n : Nat} {ty : FieldType} {atype : ArrayType} (hd : decode cc pc = .ok (.newarray atype, 2)) (hty : newarray.typeOf atype = ty) (hmem : ty ∈ fcTys) (harr : Cond.arrayClass ty ∈ lw_all) (hn : n < 100000) (hcb : componentBytes ty ≤ 8) (hk : kdO (.inr (ty, n)) 0 = 1 ∧ ∀ k, kdO (.inr (ty, n)) k = kdO (.inr (ty, n)) 0) (hdv : defaultValue ty = .int 0)
    (kk : fc_X g l y cc nL ret d n0 s0 (cl (fc_new M (.inr (ty, n)) n (fun _ => .int 0)) (tz0 S (fc_nx M)) U) (pc + 2) L (.ref (fc_B g + fc_nx M) :: st) Q) : fc_X g l y cc nL ret d n0 s0 (cl M S U) pc L (.int (nI n) :: st) Q :=
  x_newa hd hty hmem harr hn hcb (by rw [hdv, cl_newU (fun _ _ => rfl) (fun k => by rw [hk.2, hk.1]; decide)]; exact kk)
theorem x_anewC {y : MethodName} {cc : ByteArray} {nL : Nat} {ret : Option FieldType} {d n0 s0 : Nat} {pc : Nat} {L : List (Option Value)} {st : List Value} {Q : Outcome → fc_M → Prop} {n i : Nat} {C : String} (hd : decode cc pc = .ok (.anewarray i, 3)) (hmem : FieldType.object C ∈ fcTys) (hcl : Cond.classLink y.cls i C ∈ lw_all) (hao : Cond.arrayOver (.object C) ∈ lw_tbl) (hn : n < 100000)
    (kk : fc_X g l y cc nL ret d n0 s0 (cl (fc_new M (.inr (.object C, n)) n (fun _ => .null)) (tz0 S (fc_nx M)) U) (pc + 3) L (.ref (fc_B g + fc_nx M) :: st) Q) : fc_X g l y cc nL ret d n0 s0 (cl M S U) pc L (.int (nI n) :: st) Q :=
  x_anew hd hmem hcl hao hn (by rw [cl_newU (sh := .inr (.object C, n)) (fun k hk => absurd (show (0 : Nat) = 1 from hk) (by decide)) (fun k => (by decide : (0 : Nat) ≠ 2))]; exact kk)
theorem kd1a : ∀ k, kdO (.inl 1) k = 1 → defaultValue (fcTy 1 k) = .int 0 := fun k hk => match k, hk with
  | 0, hk => by cases hk
  | 1, hk => by cases hk
  | 2, hk => by cases hk
  | k + 3, _ => rfl
theorem kd1b : ∀ k, kdO (.inl 1) k ≠ 2 := fun k => match k with
  | 0 => by decide
  | 1 => by decide
  | 2 => by decide
  | k + 3 => by show (1 : Nat) ≠ 2; decide
set_option maxHeartbeats 1000000 in
theorem d_iText {a : Nat} (ha : a < fc_nx M) (hs : fc_sh M a = .inl 1) : fc_CX g l yX1_init cX1_init 1 (none) 2 [.ref (fc_B g + a)] (cl M S U) (fc_rn (cl (tiM g M a) (tiS S (fc_nx M)) U)) := by
  refine fc_enter (by decide) (Nat.le_of_ble_eq_true rfl) rfl ?_
  have hs1 : fc_sh (fc_new M (.inr (.int, 16)) 16 (fun _ => .int 0)) a = .inl 1 := (sh_newn (by omega)).trans hs
  have hs2 : fc_sh (fc_new (tiA g M a 0 (.inr (.int, 16)) 16 (fun _ => .int 0)) (.inr (.object "FourCars$Term", 16)) 16 (fun _ => .null)) a = .inl 1 := (sh_newn (by show a ≠ fc_nx M + 1; omega)).trans hs1
  have hs3 : fc_sh (fc_new (tiA g (tiA g M a 0 (.inr (.int, 16)) 16 (fun _ => .int 0)) a 1 (.inr (.object "FourCars$Term", 16)) 16 (fun _ => .null)) (.inr (.object "FourCars$Term", 16)) 16 (fun _ => .null)) a = .inl 1 := (sh_newn (by show a ≠ fc_nx M + 2; omega)).trans hs2
  refine x_aload_n dX1_init_0 rfl ?_
  refine x_obj dX1_init_1 q178 q150 q151 (by omega) (Nat.le_of_ble_eq_true rfl) ?_
  refine x_aload_n dX1_init_4 rfl ?_
  refine x_bipush (v := nI 16) dX1_init_5 (by decide) ?_
  refine x_newaC (ty := .int) (n := 16) dX1_init_7 rfl (by decide) q201 (by decide) (by decide) ⟨rfl, fun _ => rfl⟩ rfl ?_
  refine x_putF 1 0 dX1_init_9 (C := RX1) (T := TX1) (N := 4) rfl (by decide) q181 rfl rfl rfl rfl rfl (Nat.lt_of_lt_of_le ha (by show fc_nx M ≤ fc_nx M + 1; omega)) hs1 ?_
  refine x_eqM (cl_putr (congrArg (fun z => kdO z 0) hs1)) ?_
  refine x_aload_n dX1_init_12 rfl ?_
  refine x_bipush (v := nI 16) dX1_init_13 (by decide) ?_
  refine x_anewC (n := 16) dX1_init_15 (by decide) q179 q180 (by decide) ?_
  refine x_putF 1 1 dX1_init_18 (C := RX1) (T := TX1) (N := 4) rfl (by decide) q184 rfl rfl rfl rfl rfl (Nat.lt_of_lt_of_le ha (by show fc_nx M ≤ fc_nx M + 2; omega)) hs2 ?_
  refine x_eqM (cl_putr (congrArg (fun z => kdO z 1) hs2)) ?_
  refine x_aload_n dX1_init_21 rfl ?_
  refine x_bipush (v := nI 16) dX1_init_22 (by decide) ?_
  refine x_anewC (n := 16) dX1_init_24 (by decide) q179 q180 (by decide) ?_
  refine x_putF 1 2 dX1_init_27 (C := RX1) (T := TX1) (N := 4) rfl (by decide) q187 rfl rfl rfl rfl rfl (Nat.lt_of_lt_of_le ha (by show fc_nx M ≤ fc_nx M + 3; omega)) hs3 ?_
  refine x_eqM (cl_putr (congrArg (fun z => kdO z 2) hs3)) ?_
  exact x_vret dX1_init_30 rfl fc_rn.of
end T99ZZO
