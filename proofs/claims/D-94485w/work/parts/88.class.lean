set_option maxRecDepth 100000
/-! ===== the class's memory: a base (shapes, references), its ints S, its longs U ===== -/
def kdF (ty : FieldType) : Nat := match ty with
  | .int => 1
  | .boolean => 1
  | .char => 1
  | .long => 2
  | _ => 0
def kdA (ty : FieldType) : Nat := match ty with
  | .int => 1
  | .boolean => 1
  | .byte => 1
  | _ => 0
def kdO (sh : fc_Sh) (k : Nat) : Nat := match sh with
  | .inl ci => kdF (fcTy ci k)
  | .inr q => kdA q.1
abbrev tU : Type := Nat → Nat → Int64
def cl (M : fc_M) (S : tT) (U : tU) : fc_M := (M.1, M.2.1, fun a k => if kdO (M.2.1 a) k = 1 then .int (S a k) else if kdO (M.2.1 a) k = 2 then .long (U a k) else M.2.2 a k)
def tuL (U : tU) (j i : Nat) (v : Int64) : tU := fun a k => if a = j ∧ k = i then v else U a k
section FCCL
variable {M : fc_M} {S : tT} {U : tU} {a k : Nat}
theorem cl_nx : fc_nx (cl M S U) = fc_nx M := rfl
theorem cl_sh : fc_sh (cl M S U) a = fc_sh M a := rfl
theorem cl_i (h : kdO (fc_sh M a) k = 1) : fc_ct (cl M S U) a k = .int (S a k) := if_pos h
theorem cl_l (h : kdO (fc_sh M a) k = 2) : fc_ct (cl M S U) a k = .long (U a k) := by
  show (if kdO (M.2.1 a) k = 1 then _ else _) = _
  have h2 : kdO (M.2.1 a) k = 2 := h
  rw [if_neg (by omega), if_pos h2]
theorem cl_r (h : kdO (fc_sh M a) k = 0) : fc_ct (cl M S U) a k = fc_ct M a k := by
  show (if kdO (M.2.1 a) k = 1 then _ else _) = _
  have h2 : kdO (M.2.1 a) k = 0 := h
  rw [if_neg (by omega), if_neg (by omega)]
  rfl
theorem cl_puti {v : Int32} (h : kdO (fc_sh M a) k = 1) : fc_put (cl M S U) a k (.int v) = cl M (tu S a k v) U := by
  have h2 : kdO (M.2.1 a) k = 1 := h
  refine Prod.ext rfl (Prod.ext rfl (funext fun b => funext fun j => ?_))
  show (if b = a ∧ j = k then Value.int v else if kdO (M.2.1 b) j = 1 then .int (S b j) else if kdO (M.2.1 b) j = 2 then .long (U b j) else M.2.2 b j) = (if kdO (M.2.1 b) j = 1 then .int (tu S a k v b j) else if kdO (M.2.1 b) j = 2 then .long (U b j) else M.2.2 b j)
  by_cases e : b = a ∧ j = k
  · obtain ⟨rfl, rfl⟩ := e
    rw [if_pos ⟨rfl, rfl⟩, if_pos h2]
    simp [tu]
  · rw [if_neg e]
    simp [tu, e]
theorem cl_putl {v : Int64} (h : kdO (fc_sh M a) k = 2) : fc_put (cl M S U) a k (.long v) = cl M S (tuL U a k v) := by
  have h2 : kdO (M.2.1 a) k = 2 := h
  refine Prod.ext rfl (Prod.ext rfl (funext fun b => funext fun j => ?_))
  show (if b = a ∧ j = k then Value.long v else if kdO (M.2.1 b) j = 1 then .int (S b j) else if kdO (M.2.1 b) j = 2 then .long (U b j) else M.2.2 b j) = (if kdO (M.2.1 b) j = 1 then .int (S b j) else if kdO (M.2.1 b) j = 2 then .long (tuL U a k v b j) else M.2.2 b j)
  by_cases e : b = a ∧ j = k
  · obtain ⟨rfl, rfl⟩ := e
    rw [if_pos ⟨rfl, rfl⟩, if_neg (by omega), if_pos h2]
    simp [tuL]
  · rw [if_neg e]
    simp [tuL, e]
theorem cl_putr {v : Value} (h : kdO (fc_sh M a) k = 0) : fc_put (cl M S U) a k v = cl (fc_put M a k v) S U := by
  have h2 : kdO (M.2.1 a) k = 0 := h
  refine Prod.ext rfl (Prod.ext rfl (funext fun b => funext fun j => ?_))
  show (if b = a ∧ j = k then v else if kdO (M.2.1 b) j = 1 then .int (S b j) else if kdO (M.2.1 b) j = 2 then .long (U b j) else M.2.2 b j) = (if kdO (M.2.1 b) j = 1 then .int (S b j) else if kdO (M.2.1 b) j = 2 then .long (U b j) else (if b = a ∧ j = k then v else M.2.2 b j))
  by_cases e : b = a ∧ j = k
  · obtain ⟨rfl, rfl⟩ := e
    rw [if_pos ⟨rfl, rfl⟩, if_neg (by omega), if_neg (by omega), if_pos ⟨rfl, rfl⟩]
  · rw [if_neg e, if_neg e]
end FCCL
/-- a tower of the class, by a row -/
def twSh (j : Nat) : fc_Sh := if j = 0 then .inl 3 else if j = 1 then .inr (.object "FourCars$Person", 60) else if j = 2 then .inr (.object "FourCars$Car", 4) else if j < 63 then .inl 4 else .inl 5
def LT (g : fc_G) (M : fc_M) (β : Nat) : Prop := β + 67 ≤ fc_nx M ∧ (∀ j, j < 67 → fc_sh M (β + j) = twSh j) ∧ (fc_ct M β 0 = .ref (fc_B g + (β + 1)) ∧ fc_ct M β 1 = .ref (fc_B g + (β + 2)) ∧ fc_ct M β 11 = .ref (fc_B g + 0)) ∧ (∀ p, p < 60 → fc_ct M (β + 1) p = .ref (fc_B g + (β + 3 + p))) ∧ ∀ c, c < 4 → fc_ct M (β + 2) c = .ref (fc_B g + (β + 63 + c))
def cmp (k : Nat) : Nat := if k = 4 then 5 else if k = 5 then 4 else k
theorem cmp_inj {j k : Nat} (h : cmp j = cmp k) : j = k := by
  unfold cmp at h
  repeat' split at h
  all_goals omega
def clr (S : tT) (β : Nat) (v : Nat → Int32) : tT := fun a k => if a = β ∧ (k = 2 ∨ k = 3 ∨ k = 4) then v k else if β + 3 ≤ a ∧ a < β + 63 ∧ k < 7 then v (820 + 8 * (a - (β + 3)) + k) else if β + 63 ≤ a ∧ a < β + 67 ∧ k < 6 then v (10 + 20 * (a - (β + 63)) + cmp k) else S a k
abbrev cR (M : fc_M) (S : tT) (U : tU) (β : Nat) (v : Nat → Int32) : fc_M := cl M (clr S β v) U
section FCCR
variable {S : tT} {β : Nat} {v : Nat → Int32} {p c k : Nat} {x : Int32}
theorem clr_t (hk : k = 2 ∨ k = 3 ∨ k = 4) : clr S β v β k = v k := if_pos ⟨rfl, hk⟩
theorem clr_p (hp : p < 60) (hk : k < 7) : clr S β v (β + 3 + p) k = v (820 + 8 * p + k) := by
  show (if _ then _ else _) = _
  rw [if_neg (by omega), if_pos (by omega), show β + 3 + p - (β + 3) = p by omega]
theorem clr_c (hc : c < 4) (hk : k < 6) : clr S β v (β + 63 + c) k = v (10 + 20 * c + cmp k) := by
  show (if _ then _ else _) = _
  rw [if_neg (by omega), if_neg (by omega), if_pos (by omega), show β + 63 + c - (β + 63) = c by omega]
theorem clr_o {a : Nat} (h : a < β ∨ β + 67 ≤ a) : clr S β v a k = S a k := by
  show (if _ then _ else _) = _
  rw [if_neg (by omega), if_neg (by omega), if_neg (by omega)]
theorem clr_f (h : ¬ (k = 2 ∨ k = 3 ∨ k = 4)) : clr S β v β k = S β k := by
  show (if _ then _ else _) = _
  rw [if_neg (fun e => h e.2), if_neg (by omega), if_neg (by omega)]
theorem clr_up (hp : p < 60) (hk : k < 7) : tu (clr S β v) (β + 3 + p) k x = clr S β (up v (820 + 8 * p + k) x) := by
  funext a j
  show (if a = β + 3 + p ∧ j = k then x else clr S β v a j) = clr S β (up v (820 + 8 * p + k) x) a j
  by_cases e : a = β + 3 + p ∧ j = k
  · obtain ⟨rfl, rfl⟩ := e
    rw [if_pos ⟨rfl, rfl⟩, clr_p hp hk, up_s]
  · rw [if_neg e]
    show (if _ then _ else _) = (if _ then _ else _)
    by_cases h1 : a = β ∧ (j = 2 ∨ j = 3 ∨ j = 4)
    · rw [if_pos h1, if_pos h1, up_n (by omega)]
    · rw [if_neg h1, if_neg h1]
      by_cases h2 : β + 3 ≤ a ∧ a < β + 63 ∧ j < 7
      · rw [if_pos h2, if_pos h2, up_n (by omega)]
      · rw [if_neg h2, if_neg h2]
        by_cases h3 : β + 63 ≤ a ∧ a < β + 67 ∧ j < 6
        · rw [if_pos h3, if_pos h3, up_n (by unfold cmp; split <;> (try split) <;> omega)]
        · rw [if_neg h3, if_neg h3]
theorem clr_uc (hc : c < 4) (hk : k < 6) : tu (clr S β v) (β + 63 + c) k x = clr S β (up v (10 + 20 * c + cmp k) x) := by
  funext a j
  show (if a = β + 63 + c ∧ j = k then x else clr S β v a j) = clr S β (up v (10 + 20 * c + cmp k) x) a j
  have hk6 : cmp k < 6 := by unfold cmp; split <;> (try split) <;> omega
  by_cases e : a = β + 63 + c ∧ j = k
  · obtain ⟨rfl, rfl⟩ := e
    rw [if_pos ⟨rfl, rfl⟩, clr_c hc hk, up_s]
  · rw [if_neg e]
    show (if _ then _ else _) = (if _ then _ else _)
    by_cases h1 : a = β ∧ (j = 2 ∨ j = 3 ∨ j = 4)
    · rw [if_pos h1, if_pos h1, up_n (by omega)]
    · rw [if_neg h1, if_neg h1]
      by_cases h2 : β + 3 ≤ a ∧ a < β + 63 ∧ j < 7
      · rw [if_pos h2, if_pos h2, up_n (by omega)]
      · rw [if_neg h2, if_neg h2]
        by_cases h3 : β + 63 ≤ a ∧ a < β + 67 ∧ j < 6
        · have hj6 : cmp j = cmp k → j = k := cmp_inj
          have hj7 : cmp j < 6 := by unfold cmp; split <;> (try split) <;> omega
          rw [if_pos h3, if_pos h3, up_n (fun z => e ⟨by omega, hj6 (by omega)⟩)]
        · rw [if_neg h3, if_neg h3]
theorem clr_ut (hk : k = 2 ∨ k = 3 ∨ k = 4) : tu (clr S β v) β k x = clr S β (up v k x) := by
  funext a j
  show (if a = β ∧ j = k then x else clr S β v a j) = clr S β (up v k x) a j
  by_cases e : a = β ∧ j = k
  · obtain ⟨rfl, rfl⟩ := e
    rw [if_pos ⟨rfl, rfl⟩, clr_t hk, up_s]
  · rw [if_neg e]
    show (if _ then _ else _) = (if _ then _ else _)
    by_cases h1 : a = β ∧ (j = 2 ∨ j = 3 ∨ j = 4)
    · rw [if_pos h1, if_pos h1, up_n (fun z => e ⟨h1.1, z⟩)]
    · rw [if_neg h1, if_neg h1]
      by_cases h2 : β + 3 ≤ a ∧ a < β + 63 ∧ j < 7
      · rw [if_pos h2, if_pos h2, up_n (by omega)]
      · rw [if_neg h2, if_neg h2]
        by_cases h3 : β + 63 ≤ a ∧ a < β + 67 ∧ j < 6
        · rw [if_pos h3, if_pos h3, up_n (by omega)]
        · rw [if_neg h3, if_neg h3]
theorem clr_uo {a : Nat} (h : ¬ (β ≤ a ∧ a < β + 67)) : tu (clr S β v) a k x = clr (tu S a k x) β v := by
  funext b j
  show (if b = a ∧ j = k then x else clr S β v b j) = clr (tu S a k x) β v b j
  by_cases e : b = a ∧ j = k
  · obtain ⟨rfl, rfl⟩ := e
    rw [if_pos ⟨rfl, rfl⟩, clr_o (by omega)]
    simp [tu]
  · rw [if_neg e]
    show (if _ then _ else _) = (if _ then _ else _)
    by_cases h1 : b = β ∧ (j = 2 ∨ j = 3 ∨ j = 4)
    · rw [if_pos h1, if_pos h1]
    · rw [if_neg h1, if_neg h1]
      by_cases h2 : β + 3 ≤ b ∧ b < β + 63 ∧ j < 7
      · rw [if_pos h2, if_pos h2]
      · rw [if_neg h2, if_neg h2]
        by_cases h3 : β + 63 ≤ b ∧ b < β + 67 ∧ j < 6
        · rw [if_pos h3, if_pos h3]
        · rw [if_neg h3, if_neg h3]
          simp [tu, e]
theorem clr_uf (h : ¬ (k = 2 ∨ k = 3 ∨ k = 4)) : tu (clr S β v) β k x = clr (tu S β k x) β v := by
  funext b j
  show (if b = β ∧ j = k then x else clr S β v b j) = clr (tu S β k x) β v b j
  by_cases e : b = β ∧ j = k
  · obtain ⟨rfl, rfl⟩ := e
    rw [if_pos ⟨rfl, rfl⟩, clr_f h]
    simp [tu]
  · rw [if_neg e]
    show (if _ then _ else _) = (if _ then _ else _)
    by_cases h1 : b = β ∧ (j = 2 ∨ j = 3 ∨ j = 4)
    · rw [if_pos h1, if_pos h1]
    · rw [if_neg h1, if_neg h1]
      by_cases h2 : β + 3 ≤ b ∧ b < β + 63 ∧ j < 7
      · rw [if_pos h2, if_pos h2]
      · rw [if_neg h2, if_neg h2]
        by_cases h3 : β + 63 ≤ b ∧ b < β + 67 ∧ j < 6
        · rw [if_pos h3, if_pos h3]
        · rw [if_neg h3, if_neg h3]
          simp [tu, e]
end FCCR
theorem kd4 {k : Nat} (hk : k < 7) : kdO (.inl 4) k = 1 := by
  match k, hk with
  | 0, _ => rfl
  | 1, _ => rfl
  | 2, _ => rfl
  | 3, _ => rfl
  | 4, _ => rfl
  | 5, _ => rfl
  | 6, _ => rfl
theorem kd5 {k : Nat} (hk : k < 6) : kdO (.inl 5) k = 1 := by
  match k, hk with
  | 0, _ => rfl
  | 1, _ => rfl
  | 2, _ => rfl
  | 3, _ => rfl
  | 4, _ => rfl
  | 5, _ => rfl
theorem ty4 {k : Nat} {x : Int32} (hk : k < 7) : narrow (fcTy 4 k) (.int x) = .int x ∧ fits (fcTy 4 k) (.int x) = true := by
  match k, hk with
  | 0, _ => exact ⟨rfl, rfl⟩
  | 1, _ => exact ⟨rfl, rfl⟩
  | 2, _ => exact ⟨rfl, rfl⟩
  | 3, _ => exact ⟨rfl, rfl⟩
  | 4, _ => exact ⟨rfl, rfl⟩
  | 5, _ => exact ⟨rfl, rfl⟩
  | 6, _ => exact ⟨rfl, rfl⟩
theorem ty5 {k : Nat} {x : Int32} (hk : k < 5) : narrow (fcTy 5 k) (.int x) = .int x ∧ fits (fcTy 5 k) (.int x) = true := by
  match k, hk with
  | 0, _ => exact ⟨rfl, rfl⟩
  | 1, _ => exact ⟨rfl, rfl⟩
  | 2, _ => exact ⟨rfl, rfl⟩
  | 3, _ => exact ⟨rfl, rfl⟩
  | 4, _ => exact ⟨rfl, rfl⟩
section FCKR
variable {g : fc_G} {l : Launch} {y : MethodName} {cc : ByteArray} {nL : Nat} {ret : Option FieldType} {d n0 s0 : Nat} {M : fc_M} {pc : Nat} {L : List (Option Value)} {st : List Value} {Q : Outcome → fc_M → Prop} {S : tT} {U : tU} {β : Nat} {v : Nat → Int32}
theorem LT.sh0 (h : LT g M β) : fc_sh M β = .inl 3 := h.2.1 0 (by decide)
theorem LT.sh1 (h : LT g M β) : fc_sh M (β + 1) = .inr (.object "FourCars$Person", 60) := h.2.1 1 (by decide)
theorem LT.sh2 (h : LT g M β) : fc_sh M (β + 2) = .inr (.object "FourCars$Car", 4) := h.2.1 2 (by decide)
theorem LT.shp {p : Nat} (h : LT g M β) (hp : p < 60) : fc_sh M (β + 3 + p) = .inl 4 := by
  have h1 := h.2.1 (3 + p) (by omega)
  rw [← Nat.add_assoc] at h1
  rw [h1]
  show (if _ then _ else _) = _
  rw [if_neg (by omega), if_neg (by omega), if_neg (by omega), if_pos (by omega)]
theorem LT.shc {c : Nat} (h : LT g M β) (hc : c < 4) : fc_sh M (β + 63 + c) = .inl 5 := by
  have h1 := h.2.1 (63 + c) (by omega)
  rw [← Nat.add_assoc] at h1
  rw [h1]
  show (if _ then _ else _) = _
  rw [if_neg (by omega), if_neg (by omega), if_neg (by omega), if_neg (by omega)]
theorem k_tget {i : Nat} (k : Nat) (hL : LT g M β) (hd : decode cc pc = .ok (.getfield i, 3)) (hk : k = 2 ∨ k = 3 ∨ k = 4) (hq : Cond.fieldLink y.cls i (TX3 k).1 (TX3 k).2.1 (TX3 k).2.2.1 ∈ lw_all) (kk : fc_X g l y cc nL ret d n0 s0 (cR M S U β v) (pc + 3) L (.int (v k) :: st) Q) : fc_X g l y cc nL ret d n0 s0 (cR M S U β v) pc L (.ref (fc_B g + β) :: st) Q := by
  have h0 := hL.1
  exact x_getf 3 k hd (C := RX3) (T := TX3) (N := 12) rfl (by omega) hq (show β < fc_nx M by omega) hL.sh0 ((cl_i (by rw [hL.sh0]; rcases hk with e | e | e <;> subst e <;> rfl)).trans (congrArg Value.int (clr_t hk))) kk
theorem k_tgetf {i : Nat} (k : Nat) (hL : LT g M β) (hd : decode cc pc = .ok (.getfield i, 3)) (hk : k = 6 ∨ k = 7 ∨ k = 8) (hq : Cond.fieldLink y.cls i (TX3 k).1 (TX3 k).2.1 (TX3 k).2.2.1 ∈ lw_all) (kk : fc_X g l y cc nL ret d n0 s0 (cR M S U β v) (pc + 3) L (.int (S β k) :: st) Q) : fc_X g l y cc nL ret d n0 s0 (cR M S U β v) pc L (.ref (fc_B g + β) :: st) Q := by
  have h0 := hL.1
  exact x_getf 3 k hd (C := RX3) (T := TX3) (N := 12) rfl (by omega) hq (show β < fc_nx M by omega) hL.sh0 ((cl_i (by rw [hL.sh0]; rcases hk with e | e | e <;> subst e <;> rfl)).trans (congrArg Value.int (clr_f (by omega)))) kk
theorem k_tgetl {i : Nat} (k : Nat) (hL : LT g M β) (hd : decode cc pc = .ok (.getfield i, 3)) (hk : k = 9 ∨ k = 10) (hq : Cond.fieldLink y.cls i (TX3 k).1 (TX3 k).2.1 (TX3 k).2.2.1 ∈ lw_all) (kk : fc_X g l y cc nL ret d n0 s0 (cR M S U β v) (pc + 3) L (.long (U β k) :: st) Q) : fc_X g l y cc nL ret d n0 s0 (cR M S U β v) pc L (.ref (fc_B g + β) :: st) Q := by
  have h0 := hL.1
  exact x_getf 3 k hd (C := RX3) (T := TX3) (N := 12) rfl (by omega) hq (show β < fc_nx M by omega) hL.sh0 (cl_l (by rw [hL.sh0]; rcases hk with e | e <;> subst e <;> rfl)) kk
theorem k_tgetg {i : Nat} {gv : Value} (k : Nat) (hL : LT g M β) (hgv : fc_ct M β 5 = gv) (hd : decode cc pc = .ok (.getfield i, 3)) (hk : k = 5) (hq : Cond.fieldLink y.cls i (TX3 k).1 (TX3 k).2.1 (TX3 k).2.2.1 ∈ lw_all) (kk : fc_X g l y cc nL ret d n0 s0 (cR M S U β v) (pc + 3) L (gv :: st) Q) : fc_X g l y cc nL ret d n0 s0 (cR M S U β v) pc L (.ref (fc_B g + β) :: st) Q := by
  have h0 := hL.1
  subst hk
  exact x_getf 3 5 hd (C := RX3) (T := TX3) (N := 12) rfl (by omega) hq (show β < fc_nx M by omega) hL.sh0 ((cl_r (by rw [hL.sh0]; rfl)).trans hgv) kk
theorem k_pget {i p : Nat} (k : Nat) (hL : LT g M β) (hd : decode cc pc = .ok (.getfield i, 3)) (hk : k < 7) (hq : Cond.fieldLink y.cls i (TX4 k).1 (TX4 k).2.1 (TX4 k).2.2.1 ∈ lw_all) (hp : p < 60) (kk : fc_X g l y cc nL ret d n0 s0 (cR M S U β v) (pc + 3) L (.int (v (820 + 8 * p + k)) :: st) Q) : fc_X g l y cc nL ret d n0 s0 (cR M S U β v) pc L (.ref (fc_B g + (β + 3 + p)) :: st) Q := by
  have h0 := hL.1
  exact x_getf 4 k hd (C := RX4) (T := TX4) (N := 7) rfl hk hq (show β + 3 + p < fc_nx M by omega) (hL.shp hp) ((cl_i (by rw [hL.shp hp]; exact kd4 hk)).trans (congrArg Value.int (clr_p hp hk))) kk
theorem k_cget {i c : Nat} (k j : Nat) (hj : cmp k = j) (hL : LT g M β) (hd : decode cc pc = .ok (.getfield i, 3)) (hk : k < 6) (hq : Cond.fieldLink y.cls i (TX5 k).1 (TX5 k).2.1 (TX5 k).2.2.1 ∈ lw_all) (hc : c < 4) (kk : fc_X g l y cc nL ret d n0 s0 (cR M S U β v) (pc + 3) L (.int (v (10 + 20 * c + j)) :: st) Q) : fc_X g l y cc nL ret d n0 s0 (cR M S U β v) pc L (.ref (fc_B g + (β + 63 + c)) :: st) Q := by
  have h0 := hL.1
  subst hj
  exact x_getf 5 k hd (C := RX5) (T := TX5) (N := 8) rfl (by omega) hq (show β + 63 + c < fc_nx M by omega) (hL.shc hc) ((cl_i (by rw [hL.shc hc]; exact kd5 hk)).trans (congrArg Value.int (clr_c hc hk))) kk
theorem k_cgetl {i c : Nat} (k : Nat) (hL : LT g M β) (hd : decode cc pc = .ok (.getfield i, 3)) (hk : k = 6 ∨ k = 7) (hq : Cond.fieldLink y.cls i (TX5 k).1 (TX5 k).2.1 (TX5 k).2.2.1 ∈ lw_all) (hc : c < 4) (kk : fc_X g l y cc nL ret d n0 s0 (cR M S U β v) (pc + 3) L (.long (U (β + 63 + c) k) :: st) Q) : fc_X g l y cc nL ret d n0 s0 (cR M S U β v) pc L (.ref (fc_B g + (β + 63 + c)) :: st) Q := by
  have h0 := hL.1
  exact x_getf 5 k hd (C := RX5) (T := TX5) (N := 8) rfl (by omega) hq (show β + 63 + c < fc_nx M by omega) (hL.shc hc) (cl_l (by rw [hL.shc hc]; rcases hk with e | e <;> subst e <;> rfl)) kk
theorem k_people {i : Nat} (k : Nat) (hk : k = 0) (hL : LT g M β) (hd : decode cc pc = .ok (.getfield i, 3)) (hq : Cond.fieldLink y.cls i (TX3 k).1 (TX3 k).2.1 (TX3 k).2.2.1 ∈ lw_all) (kk : fc_X g l y cc nL ret d n0 s0 (cR M S U β v) (pc + 3) L (.ref (fc_B g + (β + 1)) :: st) Q) : fc_X g l y cc nL ret d n0 s0 (cR M S U β v) pc L (.ref (fc_B g + β) :: st) Q := by
  have h0 := hL.1
  subst hk
  exact x_getf 3 0 hd (C := RX3) (T := TX3) (N := 12) rfl (by omega) hq (show β < fc_nx M by omega) hL.sh0 ((cl_r (by rw [hL.sh0]; rfl)).trans hL.2.2.1.1) kk
theorem k_cars {i : Nat} (k : Nat) (hk : k = 1) (hL : LT g M β) (hd : decode cc pc = .ok (.getfield i, 3)) (hq : Cond.fieldLink y.cls i (TX3 k).1 (TX3 k).2.1 (TX3 k).2.2.1 ∈ lw_all) (kk : fc_X g l y cc nL ret d n0 s0 (cR M S U β v) (pc + 3) L (.ref (fc_B g + (β + 2)) :: st) Q) : fc_X g l y cc nL ret d n0 s0 (cR M S U β v) pc L (.ref (fc_B g + β) :: st) Q := by
  have h0 := hL.1
  subst hk
  exact x_getf 3 1 hd (C := RX3) (T := TX3) (N := 12) rfl (by omega) hq (show β < fc_nx M by omega) hL.sh0 ((cl_r (by rw [hL.sh0]; rfl)).trans hL.2.2.1.2.1) kk
theorem k_this0 {i : Nat} (k : Nat) (hk : k = 11) (hL : LT g M β) (hd : decode cc pc = .ok (.getfield i, 3)) (hq : Cond.fieldLink y.cls i (TX3 k).1 (TX3 k).2.1 (TX3 k).2.2.1 ∈ lw_all) (kk : fc_X g l y cc nL ret d n0 s0 (cR M S U β v) (pc + 3) L (.ref (fc_B g + (0)) :: st) Q) : fc_X g l y cc nL ret d n0 s0 (cR M S U β v) pc L (.ref (fc_B g + β) :: st) Q := by
  have h0 := hL.1
  subst hk
  exact x_getf 3 11 hd (C := RX3) (T := TX3) (N := 12) rfl (by omega) hq (show β < fc_nx M by omega) hL.sh0 ((cl_r (by rw [hL.sh0]; rfl)).trans hL.2.2.1.2.2) kk
theorem k_tgetN {i : Nat} {host : String} (k : Nat) (hL : LT g M β) (hd : decode cc pc = .ok (.getfield i, 3)) (hk : k = 2 ∨ k = 3 ∨ k = 4) (hq : Cond.fieldLinkNest y.cls i (TX3 k).1 (TX3 k).2.1 (TX3 k).2.2.1 host ∈ lw_tbl) (kk : fc_X g l y cc nL ret d n0 s0 (cR M S U β v) (pc + 3) L (.int (v k) :: st) Q) : fc_X g l y cc nL ret d n0 s0 (cR M S U β v) pc L (.ref (fc_B g + β) :: st) Q := by
  have h0 := hL.1
  exact x_getN 3 k hd (C := RX3) (T := TX3) (N := 12) rfl (by omega) hq (show β < fc_nx M by omega) hL.sh0 ((cl_i (by rw [hL.sh0]; rcases hk with e | e | e <;> subst e <;> rfl)).trans (congrArg Value.int (clr_t hk))) kk
theorem k_tgetfN {i : Nat} {host : String} (k : Nat) (hL : LT g M β) (hd : decode cc pc = .ok (.getfield i, 3)) (hk : k = 6 ∨ k = 7 ∨ k = 8) (hq : Cond.fieldLinkNest y.cls i (TX3 k).1 (TX3 k).2.1 (TX3 k).2.2.1 host ∈ lw_tbl) (kk : fc_X g l y cc nL ret d n0 s0 (cR M S U β v) (pc + 3) L (.int (S β k) :: st) Q) : fc_X g l y cc nL ret d n0 s0 (cR M S U β v) pc L (.ref (fc_B g + β) :: st) Q := by
  have h0 := hL.1
  exact x_getN 3 k hd (C := RX3) (T := TX3) (N := 12) rfl (by omega) hq (show β < fc_nx M by omega) hL.sh0 ((cl_i (by rw [hL.sh0]; rcases hk with e | e | e <;> subst e <;> rfl)).trans (congrArg Value.int (clr_f (by omega)))) kk
theorem k_tgetlN {i : Nat} {host : String} (k : Nat) (hL : LT g M β) (hd : decode cc pc = .ok (.getfield i, 3)) (hk : k = 9 ∨ k = 10) (hq : Cond.fieldLinkNest y.cls i (TX3 k).1 (TX3 k).2.1 (TX3 k).2.2.1 host ∈ lw_tbl) (kk : fc_X g l y cc nL ret d n0 s0 (cR M S U β v) (pc + 3) L (.long (U β k) :: st) Q) : fc_X g l y cc nL ret d n0 s0 (cR M S U β v) pc L (.ref (fc_B g + β) :: st) Q := by
  have h0 := hL.1
  exact x_getN 3 k hd (C := RX3) (T := TX3) (N := 12) rfl (by omega) hq (show β < fc_nx M by omega) hL.sh0 (cl_l (by rw [hL.sh0]; rcases hk with e | e <;> subst e <;> rfl)) kk
theorem k_tgetgN {i : Nat} {host : String} {gv : Value} (k : Nat) (hL : LT g M β) (hgv : fc_ct M β 5 = gv) (hd : decode cc pc = .ok (.getfield i, 3)) (hk : k = 5) (hq : Cond.fieldLinkNest y.cls i (TX3 k).1 (TX3 k).2.1 (TX3 k).2.2.1 host ∈ lw_tbl) (kk : fc_X g l y cc nL ret d n0 s0 (cR M S U β v) (pc + 3) L (gv :: st) Q) : fc_X g l y cc nL ret d n0 s0 (cR M S U β v) pc L (.ref (fc_B g + β) :: st) Q := by
  have h0 := hL.1
  subst hk
  exact x_getN 3 5 hd (C := RX3) (T := TX3) (N := 12) rfl (by omega) hq (show β < fc_nx M by omega) hL.sh0 ((cl_r (by rw [hL.sh0]; rfl)).trans hgv) kk
theorem k_pgetN {i p : Nat} {host : String} (k : Nat) (hL : LT g M β) (hd : decode cc pc = .ok (.getfield i, 3)) (hk : k < 7) (hq : Cond.fieldLinkNest y.cls i (TX4 k).1 (TX4 k).2.1 (TX4 k).2.2.1 host ∈ lw_tbl) (hp : p < 60) (kk : fc_X g l y cc nL ret d n0 s0 (cR M S U β v) (pc + 3) L (.int (v (820 + 8 * p + k)) :: st) Q) : fc_X g l y cc nL ret d n0 s0 (cR M S U β v) pc L (.ref (fc_B g + (β + 3 + p)) :: st) Q := by
  have h0 := hL.1
  exact x_getN 4 k hd (C := RX4) (T := TX4) (N := 7) rfl hk hq (show β + 3 + p < fc_nx M by omega) (hL.shp hp) ((cl_i (by rw [hL.shp hp]; exact kd4 hk)).trans (congrArg Value.int (clr_p hp hk))) kk
theorem k_cgetN {i c : Nat} {host : String} (k j : Nat) (hj : cmp k = j) (hL : LT g M β) (hd : decode cc pc = .ok (.getfield i, 3)) (hk : k < 6) (hq : Cond.fieldLinkNest y.cls i (TX5 k).1 (TX5 k).2.1 (TX5 k).2.2.1 host ∈ lw_tbl) (hc : c < 4) (kk : fc_X g l y cc nL ret d n0 s0 (cR M S U β v) (pc + 3) L (.int (v (10 + 20 * c + j)) :: st) Q) : fc_X g l y cc nL ret d n0 s0 (cR M S U β v) pc L (.ref (fc_B g + (β + 63 + c)) :: st) Q := by
  have h0 := hL.1
  subst hj
  exact x_getN 5 k hd (C := RX5) (T := TX5) (N := 8) rfl (by omega) hq (show β + 63 + c < fc_nx M by omega) (hL.shc hc) ((cl_i (by rw [hL.shc hc]; exact kd5 hk)).trans (congrArg Value.int (clr_c hc hk))) kk
theorem k_cgetlN {i c : Nat} {host : String} (k : Nat) (hL : LT g M β) (hd : decode cc pc = .ok (.getfield i, 3)) (hk : k = 6 ∨ k = 7) (hq : Cond.fieldLinkNest y.cls i (TX5 k).1 (TX5 k).2.1 (TX5 k).2.2.1 host ∈ lw_tbl) (hc : c < 4) (kk : fc_X g l y cc nL ret d n0 s0 (cR M S U β v) (pc + 3) L (.long (U (β + 63 + c) k) :: st) Q) : fc_X g l y cc nL ret d n0 s0 (cR M S U β v) pc L (.ref (fc_B g + (β + 63 + c)) :: st) Q := by
  have h0 := hL.1
  exact x_getN 5 k hd (C := RX5) (T := TX5) (N := 8) rfl (by omega) hq (show β + 63 + c < fc_nx M by omega) (hL.shc hc) (cl_l (by rw [hL.shc hc]; rcases hk with e | e <;> subst e <;> rfl)) kk
theorem k_peopleN {i : Nat} {host : String} (k : Nat) (hk : k = 0) (hL : LT g M β) (hd : decode cc pc = .ok (.getfield i, 3)) (hq : Cond.fieldLinkNest y.cls i (TX3 k).1 (TX3 k).2.1 (TX3 k).2.2.1 host ∈ lw_tbl) (kk : fc_X g l y cc nL ret d n0 s0 (cR M S U β v) (pc + 3) L (.ref (fc_B g + (β + 1)) :: st) Q) : fc_X g l y cc nL ret d n0 s0 (cR M S U β v) pc L (.ref (fc_B g + β) :: st) Q := by
  have h0 := hL.1
  subst hk
  exact x_getN 3 0 hd (C := RX3) (T := TX3) (N := 12) rfl (by omega) hq (show β < fc_nx M by omega) hL.sh0 ((cl_r (by rw [hL.sh0]; rfl)).trans hL.2.2.1.1) kk
theorem k_carsN {i : Nat} {host : String} (k : Nat) (hk : k = 1) (hL : LT g M β) (hd : decode cc pc = .ok (.getfield i, 3)) (hq : Cond.fieldLinkNest y.cls i (TX3 k).1 (TX3 k).2.1 (TX3 k).2.2.1 host ∈ lw_tbl) (kk : fc_X g l y cc nL ret d n0 s0 (cR M S U β v) (pc + 3) L (.ref (fc_B g + (β + 2)) :: st) Q) : fc_X g l y cc nL ret d n0 s0 (cR M S U β v) pc L (.ref (fc_B g + β) :: st) Q := by
  have h0 := hL.1
  subst hk
  exact x_getN 3 1 hd (C := RX3) (T := TX3) (N := 12) rfl (by omega) hq (show β < fc_nx M by omega) hL.sh0 ((cl_r (by rw [hL.sh0]; rfl)).trans hL.2.2.1.2.1) kk
theorem k_this0N {i : Nat} {host : String} (k : Nat) (hk : k = 11) (hL : LT g M β) (hd : decode cc pc = .ok (.getfield i, 3)) (hq : Cond.fieldLinkNest y.cls i (TX3 k).1 (TX3 k).2.1 (TX3 k).2.2.1 host ∈ lw_tbl) (kk : fc_X g l y cc nL ret d n0 s0 (cR M S U β v) (pc + 3) L (.ref (fc_B g + (0)) :: st) Q) : fc_X g l y cc nL ret d n0 s0 (cR M S U β v) pc L (.ref (fc_B g + β) :: st) Q := by
  have h0 := hL.1
  subst hk
  exact x_getN 3 11 hd (C := RX3) (T := TX3) (N := 12) rfl (by omega) hq (show β < fc_nx M by omega) hL.sh0 ((cl_r (by rw [hL.sh0]; rfl)).trans hL.2.2.1.2.2) kk
theorem k_pald {p : Nat} (hL : LT g M β) (hd : decode cc pc = .ok (.aaload, 1)) (hp : p < 60) (kk : fc_X g l y cc nL ret d n0 s0 (cR M S U β v) (pc + 1) L (.ref (fc_B g + (β + 3 + p)) :: st) Q) : fc_X g l y cc nL ret d n0 s0 (cR M S U β v) pc L (.int (nI p) :: .ref (fc_B g + (β + 1)) :: st) Q := by
  have h0 := hL.1
  exact x_aald hd (show β + 1 < fc_nx M by omega) hL.sh1 rfl (by decide) hp ((cl_r (by rw [hL.sh1]; rfl)).trans (hL.2.2.2.1 p hp)) kk
theorem k_cald {c : Nat} (hL : LT g M β) (hd : decode cc pc = .ok (.aaload, 1)) (hc : c < 4) (kk : fc_X g l y cc nL ret d n0 s0 (cR M S U β v) (pc + 1) L (.ref (fc_B g + (β + 63 + c)) :: st) Q) : fc_X g l y cc nL ret d n0 s0 (cR M S U β v) pc L (.int (nI c) :: .ref (fc_B g + (β + 2)) :: st) Q := by
  have h0 := hL.1
  exact x_aald hd (show β + 2 < fc_nx M by omega) hL.sh2 rfl (by decide) hc ((cl_r (by rw [hL.sh2]; rfl)).trans (hL.2.2.2.2 c hc)) kk
theorem k_pput {i p : Nat} {x : Int32} (k : Nat) (hL : LT g M β) (hd : decode cc pc = .ok (.putfield i, 3)) (hk : k < 7) (hq : Cond.fieldLink y.cls i (TX4 k).1 (TX4 k).2.1 (TX4 k).2.2.1 ∈ lw_all) (hfin : (TX4 k).2.2.2 = false) (hp : p < 60) (kk : fc_X g l y cc nL ret d n0 s0 (cR M S U β (up v (820 + 8 * p + k) x)) (pc + 3) L st Q) : fc_X g l y cc nL ret d n0 s0 (cR M S U β v) pc L (.int x :: .ref (fc_B g + (β + 3 + p)) :: st) Q := by
  have h0 := hL.1
  refine x_putf 4 k hd (C := RX4) (T := TX4) (N := 7) rfl hk hq hfin (ty4 hk).1 (ty4 hk).2 (show β + 3 + p < fc_nx M by omega) (hL.shp hp) ?_
  rw [cl_puti (by rw [hL.shp hp]; exact kd4 hk), clr_up hp hk]
  exact kk
theorem k_cput {i c : Nat} {x : Int32} (k j : Nat) (hj : cmp k = j) (hL : LT g M β) (hd : decode cc pc = .ok (.putfield i, 3)) (hk : k < 5) (hq : Cond.fieldLink y.cls i (TX5 k).1 (TX5 k).2.1 (TX5 k).2.2.1 ∈ lw_all) (hfin : (TX5 k).2.2.2 = false) (hc : c < 4) (kk : fc_X g l y cc nL ret d n0 s0 (cR M S U β (up v (10 + 20 * c + j) x)) (pc + 3) L st Q) : fc_X g l y cc nL ret d n0 s0 (cR M S U β v) pc L (.int x :: .ref (fc_B g + (β + 63 + c)) :: st) Q := by
  have h0 := hL.1
  subst hj
  refine x_putf 5 k hd (C := RX5) (T := TX5) (N := 8) rfl (by omega) hq hfin (ty5 hk).1 (ty5 hk).2 (show β + 63 + c < fc_nx M by omega) (hL.shc hc) ?_
  rw [cl_puti (by rw [hL.shc hc]; exact kd5 (by omega)), clr_uc hc (by omega)]
  exact kk
theorem k_cputz {i c : Nat} {x : Int32} (k : Nat) (hk : k = 5) (hL : LT g M β) (hd : decode cc pc = .ok (.putfield i, 3)) (hq : Cond.fieldLink y.cls i (TX5 k).1 (TX5 k).2.1 (TX5 k).2.2.1 ∈ lw_all) (hfin : (TX5 k).2.2.2 = false) (hx : narrow .boolean (.int x) = .int x) (hx2 : fits .boolean (.int x) = true) (hc : c < 4) (kk : fc_X g l y cc nL ret d n0 s0 (cR M S U β (up v (10 + 20 * c + 4) x)) (pc + 3) L st Q) : fc_X g l y cc nL ret d n0 s0 (cR M S U β v) pc L (.int x :: .ref (fc_B g + (β + 63 + c)) :: st) Q := by
  have h0 := hL.1
  subst hk
  refine x_putf 5 5 hd (C := RX5) (T := TX5) (N := 8) rfl (by omega) hq hfin hx hx2 (show β + 63 + c < fc_nx M by omega) (hL.shc hc) ?_
  rw [cl_puti (by rw [hL.shc hc]; rfl), clr_uc hc (by omega)]
  exact kk
theorem k_cputl {i c : Nat} {x : Int64} (k : Nat) (hk : k = 6 ∨ k = 7) (hL : LT g M β) (hd : decode cc pc = .ok (.putfield i, 3)) (hq : Cond.fieldLink y.cls i (TX5 k).1 (TX5 k).2.1 (TX5 k).2.2.1 ∈ lw_all) (hfin : (TX5 k).2.2.2 = false) (hc : c < 4) (kk : fc_X g l y cc nL ret d n0 s0 (cR M S (tuL U (β + 63 + c) k x) β v) (pc + 3) L st Q) : fc_X g l y cc nL ret d n0 s0 (cR M S U β v) pc L (.long x :: .ref (fc_B g + (β + 63 + c)) :: st) Q := by
  have h0 := hL.1
  have e1 : narrow (fcTy 5 k) (.long x) = .long x := by rcases hk with e | e <;> subst e <;> rfl
  have e2 : fits (fcTy 5 k) (.long x) = true := by rcases hk with e | e <;> subst e <;> rfl
  refine x_putf 5 k hd (C := RX5) (T := TX5) (N := 8) rfl (by omega) hq hfin e1 e2 (show β + 63 + c < fc_nx M by omega) (hL.shc hc) ?_
  rw [cl_putl (by rw [hL.shc hc]; rcases hk with e | e <;> subst e <;> rfl)]
  exact kk
theorem k_tput {i : Nat} {x : Int32} (k : Nat) (hL : LT g M β) (hd : decode cc pc = .ok (.putfield i, 3)) (hk : k = 2 ∨ k = 3 ∨ k = 4) (hq : Cond.fieldLink y.cls i (TX3 k).1 (TX3 k).2.1 (TX3 k).2.2.1 ∈ lw_all) (hfin : (TX3 k).2.2.2 = false) (kk : fc_X g l y cc nL ret d n0 s0 (cR M S U β (up v k x)) (pc + 3) L st Q) : fc_X g l y cc nL ret d n0 s0 (cR M S U β v) pc L (.int x :: .ref (fc_B g + β) :: st) Q := by
  have h0 := hL.1
  have e1 : narrow (fcTy 3 k) (.int x) = .int x := by rcases hk with e | e | e <;> subst e <;> rfl
  have e2 : fits (fcTy 3 k) (.int x) = true := by rcases hk with e | e | e <;> subst e <;> rfl
  refine x_putf 3 k hd (C := RX3) (T := TX3) (N := 12) rfl (by omega) hq hfin e1 e2 (show β < fc_nx M by omega) hL.sh0 ?_
  rw [cl_puti (by rw [hL.sh0]; rcases hk with e | e | e <;> subst e <;> rfl), clr_ut hk]
  exact kk
theorem k_tputl {i : Nat} {x : Int64} (k : Nat) (hL : LT g M β) (hd : decode cc pc = .ok (.putfield i, 3)) (hk : k = 9 ∨ k = 10) (hq : Cond.fieldLink y.cls i (TX3 k).1 (TX3 k).2.1 (TX3 k).2.2.1 ∈ lw_all) (hfin : (TX3 k).2.2.2 = false) (kk : fc_X g l y cc nL ret d n0 s0 (cR M S (tuL U β k x) β v) (pc + 3) L st Q) : fc_X g l y cc nL ret d n0 s0 (cR M S U β v) pc L (.long x :: .ref (fc_B g + β) :: st) Q := by
  have h0 := hL.1
  have e1 : narrow (fcTy 3 k) (.long x) = .long x := by rcases hk with e | e <;> subst e <;> rfl
  have e2 : fits (fcTy 3 k) (.long x) = true := by rcases hk with e | e <;> subst e <;> rfl
  refine x_putf 3 k hd (C := RX3) (T := TX3) (N := 12) rfl (by omega) hq hfin e1 e2 (show β < fc_nx M by omega) hL.sh0 ?_
  rw [cl_putl (by rw [hL.sh0]; rcases hk with e | e <;> subst e <;> rfl)]
  exact kk
theorem k_tputf {i : Nat} {x : Int32} (k : Nat) (hL : LT g M β) (hd : decode cc pc = .ok (.putfield i, 3)) (hk : k = 6 ∨ k = 7 ∨ k = 8) (hq : Cond.fieldLink y.cls i (TX3 k).1 (TX3 k).2.1 (TX3 k).2.2.1 ∈ lw_all) (hfin : (TX3 k).2.2.2 = false) (hx : narrow (fcTy 3 k) (.int x) = .int x) (e2 : fits (fcTy 3 k) (.int x) = true) (kk : fc_X g l y cc nL ret d n0 s0 (cR M (tu S β k x) U β v) (pc + 3) L st Q) : fc_X g l y cc nL ret d n0 s0 (cR M S U β v) pc L (.int x :: .ref (fc_B g + β) :: st) Q := by
  have h0 := hL.1
  refine x_putf 3 k hd (C := RX3) (T := TX3) (N := 12) rfl (by omega) hq hfin hx e2 (show β < fc_nx M by omega) hL.sh0 ?_
  rw [cl_puti (by rw [hL.sh0]; rcases hk with e | e | e <;> subst e <;> rfl), clr_uf (by omega)]
  exact kk
end FCKR
