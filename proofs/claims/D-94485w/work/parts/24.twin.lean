set_option maxRecDepth 100000
/-! ===== the reference's memory: one object (its offset: tw0) and 16 arrays behind it; T 0 k: its field k, T j i: its j-th array's cell i ===== -/
def tw0 : Nat := 245
def tw_fld (k : Nat) : Option Nat := match k with
  | 0 => some 1
  | 1 => some 2
  | 2 => some 3
  | 4 => some 4
  | 5 => some 5
  | 6 => some 6
  | 7 => some 7
  | 8 => some 8
  | 9 => some 9
  | 10 => some 10
  | 27 => some 11
  | 32 => some 12
  | 34 => some 13
  | 35 => some 14
  | 36 => some 15
  | 37 => some 16
  | _ => none
def tw_len (j : Nat) : Nat := match j with
  | 1 => 3970
  | 2 => 3970
  | 3 => 1300
  | 4 => 64
  | 5 => 820
  | 6 => 40
  | 7 => 400
  | 8 => 420
  | 9 => 11
  | 10 => 320
  | 11 => 60
  | 12 => 60
  | 13 => 320
  | _ => 4
def tw_ty (j : Nat) : FieldType := if j = 10 then .boolean else .int
abbrev tT : Type := Nat → Nat → Int32
def tw_val (g : fc_G) (T : tT) (j k : Nat) : Value := if j = 0 then (match tw_fld k with
  | some i => .ref (fc_B g + (tw0 + i))
  | none => .int (T 0 k)) else .int (T j k)
def tw (g : fc_G) (M : fc_M) (T : tT) : fc_M := (M.1, fun a => if tw0 ≤ a ∧ a < tw0 + 17 then (if a = tw0 then .inl 6 else .inr (tw_ty (a - tw0), tw_len (a - tw0))) else M.2.1 a, fun a k => if tw0 ≤ a ∧ a < tw0 + 17 then tw_val g T (a - tw0) k else M.2.2 a k)
def tu (T : tT) (j i : Nat) (v : Int32) : tT := fun a k => if a = j ∧ k = i then v else T a k
theorem tw_nx {g : fc_G} {M : fc_M} {T : tT} : fc_nx (tw g M T) = fc_nx M := rfl
theorem tw_sh0 {g : fc_G} {M : fc_M} {T : tT} : fc_sh (tw g M T) tw0 = .inl 6 := by simp [fc_sh, tw]
theorem tw_shj {g : fc_G} {M : fc_M} {T : tT} {j : Nat} (h0 : 0 < j) (h : j < 17) : fc_sh (tw g M T) (tw0 + j) = .inr (tw_ty j, tw_len j) := by
  show (if tw0 ≤ tw0 + j ∧ tw0 + j < tw0 + 17 then (if tw0 + j = tw0 then (.inl 6 : fc_Sh) else .inr (tw_ty (tw0 + j - tw0), tw_len (tw0 + j - tw0))) else _) = _
  rw [if_pos ⟨by omega, by omega⟩, if_neg (by omega), Nat.add_sub_cancel_left]
theorem tw_ctj {g : fc_G} {M : fc_M} {T : tT} {j k : Nat} (h : j < 17) : fc_ct (tw g M T) (tw0 + j) k = tw_val g T j k := by
  show (if tw0 ≤ tw0 + j ∧ tw0 + j < tw0 + 17 then tw_val g T (tw0 + j - tw0) k else _) = _
  rw [if_pos ⟨by omega, by omega⟩, Nat.add_sub_cancel_left]
theorem tw_ct0 {g : fc_G} {M : fc_M} {T : tT} {k : Nat} : fc_ct (tw g M T) tw0 k = tw_val g T 0 k := tw_ctj (j := 0) (by decide)
theorem tw_put {g : fc_G} {M : fc_M} {T : tT} {j k : Nat} {v : Int32} (h : j < 17) (hf : j = 0 → tw_fld k = none) : fc_put (tw g M T) (tw0 + j) k (.int v) = tw g M (tu T j k v) := by
  unfold fc_put tw
  refine Prod.ext rfl (Prod.ext rfl ?_)
  funext a q
  show (if a = tw0 + j ∧ q = k then Value.int v else if tw0 ≤ a ∧ a < tw0 + 17 then tw_val g T (a - tw0) q else M.2.2 a q) = (if tw0 ≤ a ∧ a < tw0 + 17 then tw_val g (tu T j k v) (a - tw0) q else M.2.2 a q)
  by_cases ha : tw0 ≤ a ∧ a < tw0 + 17
  · rw [if_pos ha, if_pos ha]
    obtain ⟨i, rfl⟩ : ∃ i, a = tw0 + i := ⟨a - tw0, by omega⟩
    rw [Nat.add_sub_cancel_left]
    by_cases hij : tw0 + i = tw0 + j ∧ q = k
    · rw [if_pos hij]
      obtain ⟨h1, h2⟩ := hij
      have h1 : i = j := by omega
      subst h1; subst h2
      unfold tw_val
      by_cases hi : i = 0
      · rw [if_pos hi, hf hi]
        simp [tu, hi]
      · rw [if_neg hi]
        simp [tu]
    · rw [if_neg hij]
      unfold tw_val
      by_cases hi : i = 0
      · rw [if_pos hi, if_pos hi]
        cases tw_fld q with
        | some z => rfl
        | none =>
          have : ¬ (0 = j ∧ q = k) := fun z => hij ⟨by omega, z.2⟩
          simp [tu, this]
      · rw [if_neg hi, if_neg hi]
        have : ¬ (i = j ∧ q = k) := fun z => hij ⟨by omega, z.2⟩
        simp [tu, this]
  · rw [if_neg ha, if_neg ha, if_neg]
    intro z
    omega
section FCT
variable {g : fc_G} {l : Launch} {y : MethodName} {cc : ByteArray} {nL : Nat} {ret : Option FieldType} {d n0 s0 : Nat} {M : fc_M} {T : tT} {pc : Nat} {L : List (Option Value)} {st : List Value} {Q : Outcome → fc_M → Prop}
theorem t_geti {i : Nat} (k : Nat) (hM : tw0 + 17 ≤ fc_nx M) (hd : decode cc pc = .ok (.getfield i, 3)) (hk : k < 39) (hf : tw_fld k = none) (hq : Cond.fieldLink y.cls i (TX6 k).1 (TX6 k).2.1 (TX6 k).2.2.1 ∈ lw_all)
    (kk : fc_X g l y cc nL ret d n0 s0 (tw g M T) (pc + 3) L (.int (T 0 k) :: st) Q) : fc_X g l y cc nL ret d n0 s0 (tw g M T) pc L (.ref (fc_B g + tw0) :: st) Q :=
  x_getf 6 k hd rfl hk hq (show tw0 < fc_nx M by omega) tw_sh0 (by rw [tw_ct0, tw_val, if_pos rfl, hf]) kk
theorem t_geta {i j : Nat} (k : Nat) (hM : tw0 + 17 ≤ fc_nx M) (hd : decode cc pc = .ok (.getfield i, 3)) (hk : k < 39) (hf : tw_fld k = some j) (hq : Cond.fieldLink y.cls i (TX6 k).1 (TX6 k).2.1 (TX6 k).2.2.1 ∈ lw_all)
    (kk : fc_X g l y cc nL ret d n0 s0 (tw g M T) (pc + 3) L (.ref (fc_B g + (tw0 + j)) :: st) Q) : fc_X g l y cc nL ret d n0 s0 (tw g M T) pc L (.ref (fc_B g + tw0) :: st) Q :=
  x_getf 6 k hd rfl hk hq (show tw0 < fc_nx M by omega) tw_sh0 (by rw [tw_ct0, tw_val, if_pos rfl, hf]) kk
theorem t_puti {i : Nat} {v : Int32} (k : Nat) (hM : tw0 + 17 ≤ fc_nx M) (hd : decode cc pc = .ok (.putfield i, 3)) (hk : k < 39) (hf : tw_fld k = none) (hq : Cond.fieldLink y.cls i (TX6 k).1 (TX6 k).2.1 (TX6 k).2.2.1 ∈ lw_all) (hfin : (TX6 k).2.2.2 = false) (hn : narrow (tyX6 k) (.int v) = .int v) (hfit : fits (tyX6 k) (.int v) = true)
    (kk : fc_X g l y cc nL ret d n0 s0 (tw g M (tu T 0 k v)) (pc + 3) L st Q) : fc_X g l y cc nL ret d n0 s0 (tw g M T) pc L (.int v :: .ref (fc_B g + tw0) :: st) Q :=
  x_putf 6 k hd rfl hk hq hfin hn hfit (show tw0 < fc_nx M by omega) tw_sh0 (by have e := tw_put (g := g) (M := M) (T := T) (j := 0) (k := k) (v := v) (by decide) (fun _ => hf); rw [Nat.add_zero] at e; rw [e]; exact kk)
theorem t_iald {i : Nat} {x : Int32} (j : Nat) (hM : tw0 + 17 ≤ fc_nx M) (hd : decode cc pc = .ok (.iaload, 1)) (h0 : 0 < j) (h : j < 17) (hty : tw_ty j = .int) (hx : x = nI i) (hi : i < tw_len j)
    (kk : fc_X g l y cc nL ret d n0 s0 (tw g M T) (pc + 1) L (.int (T j i) :: st) Q) : fc_X g l y cc nL ret d n0 s0 (tw g M T) pc L (.int x :: .ref (fc_B g + (tw0 + j)) :: st) Q := by
  subst hx
  exact x_iald hd (show tw0 + j < fc_nx M by omega) (by rw [tw_shj h0 h, hty]) (by unfold tw_len; split <;> decide) hi (by rw [tw_ctj h, tw_val, if_neg (by omega)]) kk
theorem t_zald {i : Nat} {x : Int32} (j : Nat) (hM : tw0 + 17 ≤ fc_nx M) (hd : decode cc pc = .ok (.baload, 1)) (h0 : 0 < j) (h : j < 17) (hty : tw_ty j = .boolean) (hx : x = nI i) (hi : i < tw_len j)
    (kk : fc_X g l y cc nL ret d n0 s0 (tw g M T) (pc + 1) L (.int (T j i) :: st) Q) : fc_X g l y cc nL ret d n0 s0 (tw g M T) pc L (.int x :: .ref (fc_B g + (tw0 + j)) :: st) Q := by
  subst hx
  exact x_zald hd (show tw0 + j < fc_nx M by omega) (by rw [tw_shj h0 h, hty]) (by unfold tw_len; split <;> decide) hi (by rw [tw_ctj h, tw_val, if_neg (by omega)]) kk
theorem t_iast {i : Nat} {x v : Int32} (j : Nat) (hM : tw0 + 17 ≤ fc_nx M) (hd : decode cc pc = .ok (.iastore, 1)) (h0 : 0 < j) (h : j < 17) (hty : tw_ty j = .int) (hx : x = nI i) (hi : i < tw_len j)
    (kk : fc_X g l y cc nL ret d n0 s0 (tw g M (tu T j i v)) (pc + 1) L st Q) : fc_X g l y cc nL ret d n0 s0 (tw g M T) pc L (.int v :: .int x :: .ref (fc_B g + (tw0 + j)) :: st) Q := by
  subst hx
  exact x_iast hd (show tw0 + j < fc_nx M by omega) (by rw [tw_shj h0 h, hty]) (by unfold tw_len; split <;> decide) hi (by rw [tw_put h (fun z => by omega)]; exact kk)
theorem t_zast {i : Nat} {x v : Int32} (j : Nat) (hM : tw0 + 17 ≤ fc_nx M) (hd : decode cc pc = .ok (.bastore, 1)) (h0 : 0 < j) (h : j < 17) (hty : tw_ty j = .boolean) (hx : x = nI i) (hi : i < tw_len j) (hv : narrow .boolean (.int v) = .int v)
    (kk : fc_X g l y cc nL ret d n0 s0 (tw g M (tu T j i v)) (pc + 1) L st Q) : fc_X g l y cc nL ret d n0 s0 (tw g M T) pc L (.int v :: .int x :: .ref (fc_B g + (tw0 + j)) :: st) Q := by
  subst hx
  exact x_zast hd (show tw0 + j < fc_nx M by omega) (by rw [tw_shj h0 h, hty]) (by unfold tw_len; split <;> decide) hi (by rw [hv, tw_put h (fun z => by omega)]; exact kk)
end FCT
