set_option maxRecDepth 100000
/-! ===== the constructors of Person, Car, Tower ===== -/
section T99ZZZP
variable {g : fc_G} {l : Launch} {M M1 : fc_M} {S S1 : tT} {U U1 : tU}
theorem kdF_1 {t : FieldType} (h : kdF t = 1) : defaultValue t = .int 0 := by
  cases t <;> first | rfl | cases h
theorem kdF_2 {t : FieldType} (h : kdF t = 2) : defaultValue t = .long 0 := by
  cases t <;> first | rfl | cases h
theorem x_newL {y : MethodName} {cc : ByteArray} {nL : Nat} {ret : Option FieldType} {d n0 s0 : Nat} {pc : Nat} {L : List (Option Value)} {st : List Value} {Q : Outcome → fc_M → Prop} {i : Nat} {C : String} {T : u_T} {N : Nat} (ci : Nat) (hd : decode cc pc = .ok (.new i, 3)) (hc : fcCl[ci]? = some (C, T, N)) (hcl : Cond.classLink y.cls i C ∈ lw_all) (hin : Cond.instantiable C N ∈ lw_all) (hini : Cond.initialized C ∈ lw_all) (kk : fc_X g l y cc nL ret d n0 s0 (cl (fc_new M (.inl ci) N (fun k => defaultValue (fcTy ci k))) (tz0 S (fc_nx M)) (tz1 U (fc_nx M))) (pc + 3) L (.ref (fc_B g + fc_nx M) :: st) Q) : fc_X g l y cc nL ret d n0 s0 (cl M S U) pc L st Q :=
  x_new ci hd hc hcl hin hini (by rw [cl_new (sh := .inl ci) (fv := fun k => defaultValue (fcTy ci k)) (fun k hk => kdF_1 (show kdF (fcTy ci k) = 1 from hk)) (fun k hk => kdF_2 (show kdF (fcTy ci k) = 2 from hk))]; exact kk)
theorem kP_X4_init : kPar yX4_init 0 := by decide +kernel
theorem kP_X5_init : kPar yX5_init 0 := by decide +kernel
theorem d_iPerson {a : Nat} : fc_CX g l yX4_init cX4_init 1 none 1 [.ref (fc_B g + a)] M (fc_rn M) := by
  refine fc_enter (by decide) (Nat.le_of_ble_eq_true rfl) rfl ?_
  refine x_aload_n dX4_init_0 rfl ?_
  refine x_obj dX4_init_1 q266 q150 q151 (by omega) (Nat.le_of_ble_eq_true rfl) ?_
  exact x_vret dX4_init_4 rfl fc_rn.of
theorem d_iCar {a : Nat} (ha : a < fc_nx M) (hs : fc_sh M a = .inl 5) : fc_CX g l yX5_init cX5_init 1 none 1 [.ref (fc_B g + a)] (cl M S U) (fc_rn (cl M (tu S a 4 (-1)) U)) := by
  refine fc_enter (by decide) (Nat.le_of_ble_eq_true rfl) rfl ?_
  refine x_aload_n dX5_init_0 rfl ?_
  refine x_obj dX5_init_1 q307 q150 q151 (by omega) (Nat.le_of_ble_eq_true rfl) ?_
  refine x_aload_n dX5_init_4 rfl ?_
  refine x_icm1 dX5_init_5 ?_
  refine q_puti 5 4 dX5_init_6 (C := RX5) (T := TX5) (N := 8) rfl (by decide) q320 rfl rfl rfl ha hs rfl ?_
  exact x_vret dX5_init_9 rfl fc_rn.of
/-- people so far -/
def LPa (g : fc_G) (M : fc_M) (S : tT) (U : tU) (β i : Nat) (M1 : fc_M) (S1 : tT) (U1 : tU) : Prop := (fc_nx M1 = β + 3 + i ∧ fc_sl M1 = fc_sl M + 7 * i) ∧ (∀ x, x < β + 3 → fc_sh M1 x = fc_sh M x ∧ (∀ k, x ≠ β + 1 → fc_ct M1 x k = fc_ct M x k) ∧ ∀ k, S1 x k = S x k ∧ U1 x k = U x k) ∧ ∀ p, p < i → fc_sh M1 (β + 3 + p) = .inl 4 ∧ fc_ct M1 (β + 1) p = .ref (fc_B g + (β + 3 + p)) ∧ ∀ k, S1 (β + 3 + p) k = 0
/-- cars so far -/
def LCa (g : fc_G) (M : fc_M) (S : tT) (U : tU) (β i : Nat) (M1 : fc_M) (S1 : tT) (U1 : tU) : Prop := (fc_nx M1 = β + 63 + i ∧ fc_sl M1 = fc_sl M + 8 * i) ∧ (∀ x, x < β + 63 → fc_sh M1 x = fc_sh M x ∧ (∀ k, x ≠ β + 2 → fc_ct M1 x k = fc_ct M x k) ∧ ∀ k, S1 x k = S x k ∧ U1 x k = U x k) ∧ ∀ c, c < i → fc_sh M1 (β + 63 + c) = .inl 5 ∧ fc_ct M1 (β + 2) c = .ref (fc_B g + (β + 63 + c)) ∧ ∀ k, S1 (β + 63 + c) k = (if k = 4 then -1 else 0) ∧ U1 (β + 63 + c) k = 0
set_option maxHeartbeats 2000000 in
theorem m_iP {β d n0 s0 : Nat} {Q : Outcome → fc_M → Prop} (h3 : fc_sh M β = .inl 3) (hP : fc_sh M (β + 1) = .inr (.object "FourCars$Person", 60)) (hc0 : fc_ct M β 0 = .ref (fc_B g + (β + 1))) (hd2 : 2 ≤ d) (kk : ∀ M2 S2 U2, LPa g M S U β 60 M2 S2 U2 → fc_X g l yX3_init cX3_init 3 none d n0 s0 (cl M2 S2 U2) 58 [some (.ref (fc_B g + β)), some (.ref (fc_B g + 0)), some (.int (nI 60))] [] Q) : ∀ (k i : Nat) (M1 : fc_M) (S1 : tT) (U1 : tU), i ≤ 60 → 60 < i + k → LPa g M S U β i M1 S1 U1 → fc_X g l yX3_init cX3_init 3 none d n0 s0 (cl M1 S1 U1) 33 [some (.ref (fc_B g + β)), some (.ref (fc_B g + 0)), some (.int (nI i))] [] Q := by
  intro k
  induction k with
  | zero => intro i M1 S1 U1 h1 h2; omega
  | succ k ih =>
    intro i M1 S1 U1 h1 h2 h
    obtain ⟨⟨a1, a2⟩, a3, a4⟩ := id h
    refine x_iload_n dX3_init_33 rfl ?_
    refine x_bipush (v := nI 60) dX3_init_34 (by decide) ?_
    refine x_icmpN_ge (tgt := 58) dX3_init_36 (by decide) (by omega) (by omega) (fun hc36 => ?_) (fun hc36 => ?_)
    · obtain rfl : i = 60 := by omega
      exact kk M1 S1 U1 h
    · refine x_aload_n dX3_init_39 rfl ?_
      refine q_getr 3 0 dX3_init_40 (C := RX3) (T := TX3) (N := 12) rfl (by decide) q347 (by omega) ((a3 β (by omega)).1.trans h3) rfl (((a3 β (by omega)).2.1 0 (by omega)).trans hc0) ?_
      refine x_iload_n dX3_init_43 rfl ?_
      refine x_newL 4 dX3_init_44 (C := RX4) (T := TX4) (N := 7) rfl q258 q262 q122 ?_
      refine x_dup dX3_init_47 rfl ?_
      refine x_I0N dX3_init_48 q265 q122 q263 q264 rfl kP_X4_init (by omega) (by decide) (Nat.le_of_ble_eq_true rfl) d_iPerson ?_
      have hsA : fc_sh (fc_new M1 (.inl 4) 7 (fun k => defaultValue (fcTy 4 k))) (β + 1) = .inr (.object "FourCars$Person", 60) := (sh_newn (by omega)).trans ((a3 (β + 1) (by omega)).1.trans hP)
      have hsX : fc_sh (fc_new M1 (.inl 4) 7 (fun k => defaultValue (fcTy 4 k))) (fc_nx M1) = .inl 4 := sh_new
      refine x_aast dX3_init_51 (show β + 1 < fc_nx M1 + 1 by omega) hsA (by decide) hc36 (Nat.lt_succ_self _) hsX (r := (RX4, TX4, 7)) rfl (Or.inl rfl) ?_
      rw [cl_putr (by rw [hsA]; rfl)]
      refine x_iincN (n := 1) dX3_init_52 (by decide) rfl (by decide) rfl ?_
      refine x_goto (tgt := 33) dX3_init_55 (by decide) ?_
      refine ih (i + 1) _ _ _ (by omega) (by omega) ⟨⟨?_, ?_⟩, fun x hx => ⟨?_, fun k hk => ?_, fun k => ⟨?_, ?_⟩⟩, fun p hp => ?_⟩
      · show fc_nx M1 + 1 = _; omega
      · show fc_sl M1 + 7 = _; omega
      · exact (sh_newn (N := 7) (f := fun k => defaultValue (fcTy 4 k)) (by omega)).trans (a3 x hx).1
      · exact (ct_pn (fun z => hk z.1)).trans ((ct_newn (by omega)).trans ((a3 x hx).2.1 k hk))
      · exact (if_neg (by omega)).trans ((a3 x hx).2.2 k).1
      · exact (if_neg (by omega)).trans ((a3 x hx).2.2 k).2
      · by_cases e : p = i
        · subst e
          refine ⟨?_, ?_, fun k => ?_⟩
          · rw [← a1]; exact sh_new (N := 7) (f := fun k => defaultValue (fcTy 4 k))
          · rw [← a1]; exact ct_ps
          · exact if_pos a1.symm
        · obtain ⟨b1, b2, b3⟩ := a4 p (by omega)
          exact ⟨(sh_newn (N := 7) (f := fun k => defaultValue (fcTy 4 k)) (by omega)).trans b1, (ct_pn (fun z => e z.2)).trans ((ct_newn (by omega)).trans b2), fun k => (if_neg (by omega)).trans (b3 k)⟩
set_option maxHeartbeats 2000000 in
theorem m_iC {β d n0 s0 : Nat} {Q : Outcome → fc_M → Prop} (h3 : fc_sh M β = .inl 3) (hP : fc_sh M (β + 2) = .inr (.object "FourCars$Car", 4)) (hc0 : fc_ct M β 1 = .ref (fc_B g + (β + 2))) (hd2 : 2 ≤ d) (kk : ∀ M2 S2 U2, LCa g M S U β 4 M2 S2 U2 → Q (.returned none) (cl M2 S2 U2)) : ∀ (k i : Nat) (M1 : fc_M) (S1 : tT) (U1 : tU), i ≤ 4 → 4 < i + k → LCa g M S U β i M1 S1 U1 → fc_X g l yX3_init cX3_init 3 none d n0 s0 (cl M1 S1 U1) 60 [some (.ref (fc_B g + β)), some (.ref (fc_B g + 0)), some (.int (nI i))] [] Q := by
  intro k
  induction k with
  | zero => intro i M1 S1 U1 h1 h2; omega
  | succ k ih =>
    intro i M1 S1 U1 h1 h2 h
    obtain ⟨⟨a1, a2⟩, a3, a4⟩ := id h
    refine x_iload_n dX3_init_60 rfl ?_
    refine x_ic4 dX3_init_61 ?_
    refine x_icmpN_ge (tgt := 84) dX3_init_62 (by decide) (by omega) (by omega) (fun hc36 => ?_) (fun hc36 => ?_)
    · obtain rfl : i = 4 := by omega
      exact x_vret dX3_init_84 rfl (kk M1 S1 U1 h)
    · refine x_aload_n dX3_init_65 rfl ?_
      refine q_getr 3 1 dX3_init_66 (C := RX3) (T := TX3) (N := 12) rfl (by decide) q349 (by omega) ((a3 β (by omega)).1.trans h3) rfl (((a3 β (by omega)).2.1 1 (by omega)).trans hc0) ?_
      refine x_iload_n dX3_init_69 rfl ?_
      refine x_newL 5 dX3_init_70 (C := RX5) (T := TX5) (N := 8) rfl q260 q303 q123 ?_
      refine x_dup dX3_init_73 rfl ?_
      refine x_I0N dX3_init_74 q306 q123 q304 q305 rfl kP_X5_init (by omega) (by decide) (Nat.le_of_ble_eq_true rfl) (d_iCar (Nat.lt_succ_self _) sh_new) ?_
      have hsA : fc_sh (fc_new M1 (.inl 5) 8 (fun k => defaultValue (fcTy 5 k))) (β + 2) = .inr (.object "FourCars$Car", 4) := (sh_newn (by omega)).trans ((a3 (β + 2) (by omega)).1.trans hP)
      have hsX : fc_sh (fc_new M1 (.inl 5) 8 (fun k => defaultValue (fcTy 5 k))) (fc_nx M1) = .inl 5 := sh_new
      refine x_aast dX3_init_77 (show β + 2 < fc_nx M1 + 1 by omega) hsA (by decide) hc36 (Nat.lt_succ_self _) hsX (r := (RX5, TX5, 8)) rfl (Or.inl rfl) ?_
      rw [cl_putr (by rw [hsA]; rfl)]
      refine x_iincN (n := 1) dX3_init_78 (by decide) rfl (by decide) rfl ?_
      refine x_goto (tgt := 60) dX3_init_81 (by decide) ?_
      refine ih (i + 1) _ _ _ (by omega) (by omega) ⟨⟨?_, ?_⟩, fun x hx => ⟨?_, fun k hk => ?_, fun k => ⟨?_, ?_⟩⟩, fun p hp => ?_⟩
      · show fc_nx M1 + 1 = _; omega
      · show fc_sl M1 + 8 = _; omega
      · exact (sh_newn (N := 8) (f := fun k => defaultValue (fcTy 5 k)) (by omega)).trans (a3 x hx).1
      · exact (ct_pn (fun z => hk z.1)).trans ((ct_newn (by omega)).trans ((a3 x hx).2.1 k hk))
      · exact (if_neg (fun z => by omega)).trans ((if_neg (by omega)).trans ((a3 x hx).2.2 k).1)
      · exact (if_neg (by omega)).trans ((a3 x hx).2.2 k).2
      · by_cases e : p = i
        · subst e
          refine ⟨?_, ?_, fun k => ⟨?_, ?_⟩⟩
          · rw [← a1]; exact sh_new (N := 8) (f := fun k => defaultValue (fcTy 5 k))
          · rw [← a1]; exact ct_ps
          · rw [← a1]
            by_cases ek : k = 4
            · subst ek; exact (if_pos ⟨rfl, rfl⟩).trans (if_pos rfl).symm
            · exact (if_neg (fun z => ek z.2)).trans ((if_pos rfl).trans (if_neg ek).symm)
          · exact if_pos a1.symm
        · obtain ⟨b1, b2, b3⟩ := a4 p (by omega)
          exact ⟨(sh_newn (N := 8) (f := fun k => defaultValue (fcTy 5 k)) (by omega)).trans b1, (ct_pn (fun z => e z.2)).trans ((ct_newn (by omega)).trans b2), fun k => ⟨(if_neg (fun z => by omega)).trans ((if_neg (by omega)).trans (b3 k).1), (if_neg (by omega)).trans (b3 k).2⟩⟩
/-- what a tower's constructor leaves -/
def iTP (g : fc_G) (M : fc_M) (S : tT) (U : tU) (β : Nat) (M' : fc_M) (S' : tT) (U' : tU) : Prop := (fc_nx M' = β + 67 ∧ fc_sl M' = fc_sl M + 516) ∧ LT g M' β ∧ (∀ x, x < β → fc_sh M' x = fc_sh M x ∧ ∀ k, fc_ct M' x k = fc_ct M x k) ∧ (∀ k, k ≠ 0 → k ≠ 1 → k ≠ 11 → fc_ct M' β k = fc_ct M β k) ∧ (∀ x k, x < β + 1 → S' x k = if x = β ∧ k = 6 then -1 else S x k) ∧ (∀ x k, β + 1 ≤ x → x < β + 67 → S' x k = if β + 63 ≤ x ∧ k = 4 then -1 else 0) ∧ (∀ x k, x < β + 1 → U' x k = U x k) ∧ ∀ c k, c < 4 → U' (β + 63 + c) k = 0
def iTM (g : fc_G) (M : fc_M) (β : Nat) : fc_M := tiA g (tiA g (fc_put M β 11 (.ref (fc_B g + 0))) β 0 (.inr (.object "FourCars$Person", 60)) 60 (fun _ => .null)) β 1 (.inr (.object "FourCars$Car", 4)) 4 (fun _ => .null)
set_option maxHeartbeats 4000000 in
theorem d_iTower {β : Nat} (hn : fc_nx M = β + 1) (h3 : fc_sh M β = .inl 3) : fc_CX g l yX3_init cX3_init 3 none 2 [.ref (fc_B g + β), .ref (fc_B g + 0)] (cl M S U) (fun o M2 => o = .returned none ∧ ∃ M' S' U', M2 = cl M' S' U' ∧ iTP g M S U β M' S' U') := by
  refine fc_enter (by decide) (Nat.le_of_ble_eq_true rfl) rfl ?_
  refine x_aload_n dX3_init_0 rfl ?_
  refine x_aload_n dX3_init_1 rfl ?_
  refine x_putF 3 11 dX3_init_2 (C := RX3) (T := TX3) (N := 12) rfl (by decide) q367 rfl rfl rfl rfl rfl (show β < fc_nx M by omega) h3 ?_
  rw [cl_putr (by rw [h3]; rfl)]
  refine x_aload_n dX3_init_5 rfl ?_
  refine x_obj dX3_init_6 q257 q150 q151 (by omega) (Nat.le_of_ble_eq_true rfl) ?_
  refine x_aload_n dX3_init_9 rfl ?_
  refine x_bipush (v := nI 60) dX3_init_10 (by decide) ?_
  refine x_anewC (n := 60) dX3_init_12 (by decide) q258 q259 (by decide) ?_
  have hs1 : fc_sh (fc_new (fc_put M β 11 (.ref (fc_B g + 0))) (.inr (.object "FourCars$Person", 60)) 60 (fun _ => .null)) β = .inl 3 := (sh_newn (by show β ≠ fc_nx M; omega)).trans h3
  refine x_putF 3 0 dX3_init_15 (C := RX3) (T := TX3) (N := 12) rfl (by decide) q347 rfl rfl rfl rfl rfl (show β < fc_nx M + 1 by omega) hs1 ?_
  refine x_eqM (cl_putr (congrArg (fun z => kdO z 0) hs1)) ?_
  refine x_aload_n dX3_init_18 rfl ?_
  refine x_ic4 dX3_init_19 ?_
  refine x_anewC (n := 4) dX3_init_20 (by decide) q260 q261 (by decide) ?_
  have hs2 : fc_sh (fc_new (tiA g (fc_put M β 11 (.ref (fc_B g + 0))) β 0 (.inr (.object "FourCars$Person", 60)) 60 (fun _ => .null)) (.inr (.object "FourCars$Car", 4)) 4 (fun _ => .null)) β = .inl 3 := (sh_newn (by show β ≠ fc_nx M + 1; omega)).trans hs1
  refine x_putF 3 1 dX3_init_23 (C := RX3) (T := TX3) (N := 12) rfl (by decide) q349 rfl rfl rfl rfl rfl (show β < fc_nx M + 1 + 1 by omega) hs2 ?_
  refine x_eqM (cl_putr (congrArg (fun z => kdO z 1) hs2)) ?_
  refine x_aload_n dX3_init_26 rfl ?_
  refine x_icm1 dX3_init_27 ?_
  refine q_puti 3 6 dX3_init_28 (C := RX3) (T := TX3) (N := 12) rfl (by decide) q359 rfl rfl rfl (show β < fc_nx M + 1 + 1 by omega) hs2 rfl ?_
  refine x_ic0 dX3_init_31 ?_
  refine x_istore_n dX3_init_32 (by decide) rfl ?_
  have e1 : fc_nx (fc_put M β 11 (.ref (fc_B g + 0))) = β + 1 := hn
  have e2 : fc_nx (tiA g (fc_put M β 11 (.ref (fc_B g + 0))) β 0 (.inr (.object "FourCars$Person", 60)) 60 (fun _ => .null)) = β + 2 := by show fc_nx M + 1 = _; omega
  have w0 : fc_sh (iTM g M β) β = .inl 3 := hs2
  have w1 : fc_sh (iTM g M β) (β + 1) = .inr (.object "FourCars$Person", 60) := by
    refine (sh_newn (N := 4) (f := fun _ => .null) (by omega)).trans ?_
    show fc_sh (fc_new (fc_put M β 11 (.ref (fc_B g + 0))) (.inr (.object "FourCars$Person", 60)) 60 (fun _ => .null)) (β + 1) = _
    rw [← e1]; exact sh_new
  have w2 : fc_sh (iTM g M β) (β + 2) = .inr (.object "FourCars$Car", 4) := by
    show fc_sh (fc_new (tiA g (fc_put M β 11 (.ref (fc_B g + 0))) β 0 (.inr (.object "FourCars$Person", 60)) 60 (fun _ => .null)) (.inr (.object "FourCars$Car", 4)) 4 (fun _ => .null)) (β + 2) = _
    rw [← e2]; exact sh_new
  have c0 : fc_ct (iTM g M β) β 0 = .ref (fc_B g + (β + 1)) := by
    refine (ct_pn (fun z => by omega)).trans ((ct_newn (by omega)).trans ?_)
    rw [← e1]; exact ct_ps
  have c1 : fc_ct (iTM g M β) β 1 = .ref (fc_B g + (β + 2)) := by
    rw [← e2]; exact ct_ps
  have co : ∀ k, k ≠ 0 → k ≠ 1 → fc_ct (iTM g M β) β k = fc_ct (fc_put M β 11 (.ref (fc_B g + 0))) β k := fun k k0 k1 => (ct_pn (fun z => k1 z.2)).trans ((ct_newn (by omega)).trans ((ct_pn (fun z => k0 z.2)).trans (ct_newn (by omega))))
  have cx : ∀ x, x < β → fc_sh (iTM g M β) x = fc_sh M x ∧ ∀ k, fc_ct (iTM g M β) x k = fc_ct M x k := fun x hx => ⟨(sh_newn (N := 4) (f := fun _ => .null) (by omega)).trans (sh_newn (N := 60) (f := fun _ => .null) (by omega)), fun k => (ct_pn (fun z => by omega)).trans ((ct_newn (by omega)).trans ((ct_pn (fun z => by omega)).trans ((ct_newn (by omega)).trans (ct_pn (fun z => by omega)))))⟩
  have hS : ∀ x k, x < β + 1 → tu (tz0 (tz0 S (fc_nx M)) (fc_nx M + 1)) β 6 (-1) x k = if x = β ∧ k = 6 then -1 else S x k := fun x k hx => by
    show (if x = β ∧ k = 6 then -1 else if x = fc_nx M + 1 then 0 else if x = fc_nx M then 0 else S x k) = _
    rw [if_neg (show ¬ x = fc_nx M + 1 by omega), if_neg (show ¬ x = fc_nx M by omega)]
  have hS2 : ∀ x k, β + 1 ≤ x → x < β + 3 → tu (tz0 (tz0 S (fc_nx M)) (fc_nx M + 1)) β 6 (-1) x k = 0 := fun x k h1 h2 => by
    show (if x = β ∧ k = 6 then -1 else if x = fc_nx M + 1 then 0 else if x = fc_nx M then 0 else S x k) = 0
    rw [if_neg (fun z => by omega)]
    by_cases e : x = fc_nx M + 1
    · rw [if_pos e]
    · rw [if_neg e, if_pos (by omega)]
  refine m_iP (M := iTM g M β) (S := tu (tz0 (tz0 S (fc_nx M)) (fc_nx M + 1)) β 6 (-1)) (U := U) w0 w1 c0 (by decide) (fun M2 S2 U2 hp => ?_) 61 0 (iTM g M β) (tu (tz0 (tz0 S (fc_nx M)) (fc_nx M + 1)) β 6 (-1)) U (by omega) (by omega) ⟨⟨by show fc_nx M + 1 + 1 = _; omega, rfl⟩, fun x hx => ⟨rfl, fun _ _ => rfl, fun _ => ⟨rfl, rfl⟩⟩, fun p hp => by omega⟩
  obtain ⟨⟨p1, p2⟩, p3, p4⟩ := hp
  refine x_ic0 dX3_init_58 ?_
  refine x_istore_n dX3_init_59 (by decide) rfl ?_
  refine m_iC (M := M2) (S := S2) (U := U2) ((p3 β (by omega)).1.trans w0) ((p3 (β + 2) (by omega)).1.trans w2) (((p3 β (by omega)).2.1 1 (by omega)).trans c1) (by decide) (fun M3 S3 U3 hq => ⟨rfl, M3, S3, U3, rfl, ?_⟩) 5 0 M2 S2 U2 (by omega) (by omega) ⟨⟨by omega, rfl⟩, fun x hx => ⟨rfl, fun _ _ => rfl, fun _ => ⟨rfl, rfl⟩⟩, fun p hp => by omega⟩
  obtain ⟨⟨q1, q2⟩, q3, q4⟩ := hq
  have sl : fc_sl (iTM g M β) = fc_sl M + 60 + 4 := rfl
  refine ⟨⟨by omega, by omega⟩, ⟨by omega, fun j hj => ?_, ⟨?_, ?_, ?_⟩, fun p hp => ?_, fun c hc => (q4 c hc).2.1⟩, fun x hx => ⟨?_, fun k => ?_⟩, fun k k0 k1 k11 => ?_, fun x k hx => ?_, fun x k x1 x2 => ?_, fun x k hx => ?_, fun c k hc => ((q4 c hc).2.2 k).2⟩
  · by_cases j3 : j < 3
    · have e : fc_sh M3 (β + j) = fc_sh (iTM g M β) (β + j) := (q3 _ (by omega)).1.trans (p3 _ (by omega)).1
      rw [e]
      rcases (show j = 0 ∨ j = 1 ∨ j = 2 by omega) with z | z | z <;> subst z
      · exact w0
      · exact w1
      · exact w2
    · by_cases j63 : j < 63
      · have := (p4 (j - 3) (by omega)).1
        rw [show β + 3 + (j - 3) = β + j by omega] at this
        rw [(q3 _ (by omega)).1, this]
        unfold twSh
        rw [if_neg (by omega), if_neg (by omega), if_neg (by omega), if_pos (by omega)]
      · have := (q4 (j - 63) (by omega)).1
        rw [show β + 63 + (j - 63) = β + j by omega] at this
        rw [this]
        unfold twSh
        rw [if_neg (by omega), if_neg (by omega), if_neg (by omega), if_neg (by omega)]
  · exact ((q3 β (by omega)).2.1 0 (by omega)).trans (((p3 β (by omega)).2.1 0 (by omega)).trans c0)
  · exact ((q3 β (by omega)).2.1 1 (by omega)).trans (((p3 β (by omega)).2.1 1 (by omega)).trans c1)
  · exact ((q3 β (by omega)).2.1 11 (by omega)).trans (((p3 β (by omega)).2.1 11 (by omega)).trans ((co 11 (by omega) (by omega)).trans ct_ps))
  · exact ((q3 (β + 1) (by omega)).2.1 p (by omega)).trans (p4 p hp).2.1
  · exact (q3 x (by omega)).1.trans ((p3 x (by omega)).1.trans (cx x hx).1)
  · exact ((q3 x (by omega)).2.1 k (by omega)).trans (((p3 x (by omega)).2.1 k (by omega)).trans ((cx x hx).2 k))
  · exact ((q3 β (by omega)).2.1 k (by omega)).trans (((p3 β (by omega)).2.1 k (by omega)).trans ((co k k0 k1).trans (ct_pn (fun z => k11 z.2))))
  · rw [((q3 x (by omega)).2.2 k).1, ((p3 x (by omega)).2.2 k).1, hS x k hx]
  · by_cases x63 : x < β + 63
    · rw [if_neg (fun z => by omega), ((q3 x x63).2.2 k).1]
      by_cases x3 : x < β + 3
      · rw [((p3 x x3).2.2 k).1]; exact hS2 x k x1 x3
      · have := (p4 (x - (β + 3)) (by omega)).2.2 k
        rwa [show β + 3 + (x - (β + 3)) = x by omega] at this
    · have := ((q4 (x - (β + 63)) (by omega)).2.2 k).1
      rw [show β + 63 + (x - (β + 63)) = x by omega] at this
      rw [this]
      by_cases ek : k = 4
      · rw [if_pos ek, if_pos ⟨by omega, ek⟩]
      · rw [if_neg ek, if_neg (fun z => ek z.2)]
  · rw [((q3 x (by omega)).2.2 k).2, ((p3 x (by omega)).2.2 k).2]
end T99ZZZP
