set_option maxRecDepth 100000
section T99ZZT
variable {g : fc_G} {l : Launch} {M M0 M1 : fc_M} {S S0 S1 : tT} {U : tU} {E : tEn} {q : tTk}
def gdZ (S : tT) (n : Nat) : Nat → tT
  | 0 => tz0 S n
  | i + 1 => tz0 (gdZ S n i) (n + 1 + i)
theorem cl_grd {n k : Nat} {ty : FieldType} (hk : ∀ j, kdO (.inr (ty, k)) j = 1) (hdv : defaultValue ty = .int 0) : ∀ i, fc_grd g (cl M S U) ty n k i = cl (fc_grd g M ty n k i) (gdZ S (fc_nx M) i) U
  | 0 => cl_newU (sh := .inr (.array ty, n)) (fun j hj => absurd (show (0 : Nat) = 1 from hj) (by decide)) (fun j => (by decide : (0 : Nat) ≠ 2))
  | i + 1 => by
    have h1 := (grd_nx (g := g) (M := M) (ty := ty) (n := n) (k := k) i).1
    have h2 := (grd_0 (g := g) (M := M) (ty := ty) (n := n) (k := k) i).1
    have hne : fc_nx M ≠ fc_nx (fc_grd g M ty n k i) := by rw [h1]; omega
    show fc_put (fc_new (fc_grd g (cl M S U) ty n k i) (.inr (ty, k)) k (fun _ => defaultValue ty)) (fc_nx M) i (.ref (fc_B g + (fc_nx M + 1 + i))) = _
    rw [cl_grd hk hdv i, cl_newU (fun _ _ => hdv) (fun j => by rw [hk j]; decide), h1]
    exact cl_putr (congrArg (fun z => kdO z i) ((sh_newn hne).trans h2))
theorem gdZ_o {n a j : Nat} : ∀ i, (a < n ∨ n + i < a) → gdZ S n i a j = S a j
  | 0, h => if_neg (by omega)
  | i + 1, h => (if_neg (by omega)).trans (gdZ_o i (by omega))
theorem gdZ_z {n a j : Nat} : ∀ i, n ≤ a → a ≤ n + i → gdZ S n i a j = 0
  | 0, h1, h2 => if_pos (by omega)
  | i + 1, h1, h2 => by
    show (if a = n + 1 + i then 0 else gdZ S n i a j) = 0
    by_cases c : a = n + 1 + i
    · rw [if_pos c]
    · rw [if_neg c]; exact gdZ_z i h1 (by omega)
theorem grd_in {ty : FieldType} {n k c : Nat} : ∀ i, c < i → fc_sh (fc_grd g M ty n k i) (fc_nx M + 1 + c) = .inr (ty, k)
  | 0, h => by omega
  | i + 1, h => by
    have h1 := (grd_nx (g := g) (M := M) (ty := ty) (n := n) (k := k) i).1
    by_cases e : c = i
    · subst e
      show fc_sh (fc_new (fc_grd g M ty n k c) (.inr (ty, k)) k (fun _ => defaultValue ty)) (fc_nx M + 1 + c) = _
      rw [← h1]
      exact sh_new
    · have z : fc_sh (fc_new (fc_grd g M ty n k i) (.inr (ty, k)) k (fun _ => defaultValue ty)) (fc_nx M + 1 + c) = .inr (ty, k) := (sh_newn (by rw [h1]; omega)).trans (grd_in i (by omega))
      exact z
theorem grd_old {ty : FieldType} {n k a : Nat} (ha : a < fc_nx M) : ∀ i, fc_sh (fc_grd g M ty n k i) a = fc_sh M a ∧ ∀ j, fc_ct (fc_grd g M ty n k i) a j = fc_ct M a j
  | 0 => ⟨sh_newn (by omega), fun j => ct_newn (by omega)⟩
  | i + 1 => by
    have h1 := (grd_nx (g := g) (M := M) (ty := ty) (n := n) (k := k) i).1
    obtain ⟨h2, h3⟩ := grd_old (ty := ty) (n := n) (k := k) ha i
    have hs9 : fc_sh (fc_new (fc_grd g M ty n k i) (.inr (ty, k)) k (fun _ => defaultValue ty)) a = fc_sh M a := (sh_newn (by rw [h1]; omega)).trans h2
    exact ⟨hs9, fun j => (ct_pn (fun z => by omega)).trans ((ct_newn (by rw [h1]; omega)).trans (h3 j))⟩
theorem x_gridC {y : MethodName} {cc : ByteArray} {nL : Nat} {ret : Option FieldType} {d n0 s0 : Nat} {pc : Nat} {L : List (Option Value)} {st : List Value} {Q : Outcome → fc_M → Prop} {i n k : Nat} {ty : FieldType} (hd : decode cc pc = .ok (.multianewarray i 2, 4)) (h1 : FieldType.array ty ∈ fcTys) (h2 : ty ∈ fcTys) (hcl : Cond.classLink y.cls i ("[" ++ (FieldType.array ty).toString) ∈ lw_all) (hts2 : (FieldType.array ty).toString = "[" ++ ty.toString) (hn : n < 1000) (hk : k < 1000) (hcb : componentBytes ty ≤ 8) (hft : fits ty (defaultValue ty) = true) (hdf : (defaultValue ty).isDefault = true) (hkd : ∀ j, kdO (.inr (ty, k)) j = 1) (hdv : defaultValue ty = .int 0)
    (kk : fc_X g l y cc nL ret d n0 s0 (cl (fc_grd g M ty n k n) (gdZ S (fc_nx M) n) U) (pc + 4) L (.ref (fc_B g + fc_nx M) :: st) Q) : fc_X g l y cc nL ret d n0 s0 (cl M S U) pc L (.int (nI k) :: .int (nI n) :: st) Q :=
  x_grid hd h1 h2 hcl hts2 hn hk hcb hft hdf (by rw [cl_grd hkd hdv]; exact kk)
/-- a new Plan -/
def pl5 (g : fc_G) (M : fc_M) (π : Nat) : fc_M := tiA g (tiA g (tiA g (tiA g (tiA g M π 3 (.inr (.int, 4)) 4 (fun _ => .int 0)) π 4 (.inr (.int, 4)) 4 (fun _ => .int 0)) π 5 (.inr (.int, 4)) 4 (fun _ => .int 0)) π 6 (.inr (.int, 4)) 4 (fun _ => .int 0)) π 7 (.inr (.int, 4)) 4 (fun _ => .int 0)
def piM (g : fc_G) (M : fc_M) (π : Nat) : fc_M := fc_put (fc_grd g (pl5 g M π) .boolean 4 80 4) π 8 (.ref (fc_B g + (fc_nx M + 5)))
def piS (S : tT) (n : Nat) : tT := gdZ (tz0 (tz0 (tz0 (tz0 (tz0 S n) (n + 1)) (n + 2)) (n + 3)) (n + 4)) (n + 5) 4
theorem kd2a : ∀ k, kdO (.inl 2) k = 1 → defaultValue (fcTy 2 k) = .int 0 := fun k hk => match k, hk with
  | 0, _ => rfl
  | 1, _ => rfl
  | 2, _ => rfl
  | 3, hk => by cases hk
  | 4, hk => by cases hk
  | 5, hk => by cases hk
  | 6, hk => by cases hk
  | 7, hk => by cases hk
  | k + 8, hk => by cases hk
theorem kd2b : ∀ k, kdO (.inl 2) k ≠ 2 := fun k => match k with
  | 0 => by decide
  | 1 => by decide
  | 2 => by decide
  | 3 => by decide
  | 4 => by decide
  | 5 => by decide
  | 6 => by decide
  | 7 => by decide
  | k + 8 => by show (0 : Nat) ≠ 2; decide
theorem kP_X2_init : kPar yX2_init 0 := by decide +kernel
set_option maxHeartbeats 1000000 in
theorem d_iPlan {a : Nat} (ha : a < fc_nx M) (hs : fc_sh M a = .inl 2) : fc_CX g l yX2_init cX2_init 1 (none) 2 [.ref (fc_B g + a)] (cl M S U) (fc_rn (cl (piM g M a) (piS S (fc_nx M)) U)) := by
  refine fc_enter (by decide) (Nat.le_of_ble_eq_true rfl) rfl ?_
  have hs0 : fc_sh (fc_new M (.inr (.int, 4)) 4 (fun _ => .int 0)) a = .inl 2 := (sh_newn (by show a ≠ fc_nx M + 0; omega)).trans hs
  have hs1 : fc_sh (fc_new (tiA g M a 3 (.inr (.int, 4)) 4 (fun _ => .int 0)) (.inr (.int, 4)) 4 (fun _ => .int 0)) a = .inl 2 := (sh_newn (by show a ≠ fc_nx M + 1; omega)).trans hs0
  have hs2 : fc_sh (fc_new (tiA g (tiA g M a 3 (.inr (.int, 4)) 4 (fun _ => .int 0)) a 4 (.inr (.int, 4)) 4 (fun _ => .int 0)) (.inr (.int, 4)) 4 (fun _ => .int 0)) a = .inl 2 := (sh_newn (by show a ≠ fc_nx M + 2; omega)).trans hs1
  have hs3 : fc_sh (fc_new (tiA g (tiA g (tiA g M a 3 (.inr (.int, 4)) 4 (fun _ => .int 0)) a 4 (.inr (.int, 4)) 4 (fun _ => .int 0)) a 5 (.inr (.int, 4)) 4 (fun _ => .int 0)) (.inr (.int, 4)) 4 (fun _ => .int 0)) a = .inl 2 := (sh_newn (by show a ≠ fc_nx M + 3; omega)).trans hs2
  have hs4 : fc_sh (fc_new (tiA g (tiA g (tiA g (tiA g M a 3 (.inr (.int, 4)) 4 (fun _ => .int 0)) a 4 (.inr (.int, 4)) 4 (fun _ => .int 0)) a 5 (.inr (.int, 4)) 4 (fun _ => .int 0)) a 6 (.inr (.int, 4)) 4 (fun _ => .int 0)) (.inr (.int, 4)) 4 (fun _ => .int 0)) a = .inl 2 := (sh_newn (by show a ≠ fc_nx M + 4; omega)).trans hs3
  have hs9 : fc_sh (fc_grd g (pl5 g M a) .boolean 4 80 4) a = .inl 2 := (grd_old (show a < fc_nx M + 5 by omega) 4).1.trans hs4
  refine x_aload_n dX2_init_0 rfl ?_
  refine x_obj dX2_init_1 q207 q150 q151 (by omega) (Nat.le_of_ble_eq_true rfl) ?_
  refine x_aload_n dX2_init_4 rfl ?_
  refine x_ic4 dX2_init_5 ?_
  refine x_newaC (ty := .int) (n := 4) dX2_init_6 rfl (by decide) q201 (by decide) (by decide) ⟨rfl, fun _ => rfl⟩ rfl ?_
  refine x_putF 2 3 dX2_init_8 (C := RX2) (T := TX2) (N := 9) rfl (by decide) q215 rfl rfl rfl rfl rfl (Nat.lt_of_lt_of_le ha (by show fc_nx M ≤ fc_nx M + 1; omega)) hs0 ?_
  refine x_eqM (cl_putr (congrArg (fun z => kdO z 3) hs0)) ?_
  refine x_aload_n dX2_init_11 rfl ?_
  refine x_ic4 dX2_init_12 ?_
  refine x_newaC (ty := .int) (n := 4) dX2_init_13 rfl (by decide) q201 (by decide) (by decide) ⟨rfl, fun _ => rfl⟩ rfl ?_
  refine x_putF 2 4 dX2_init_15 (C := RX2) (T := TX2) (N := 9) rfl (by decide) q218 rfl rfl rfl rfl rfl (Nat.lt_of_lt_of_le ha (by show fc_nx M ≤ fc_nx M + 2; omega)) hs1 ?_
  refine x_eqM (cl_putr (congrArg (fun z => kdO z 4) hs1)) ?_
  refine x_aload_n dX2_init_18 rfl ?_
  refine x_ic4 dX2_init_19 ?_
  refine x_newaC (ty := .int) (n := 4) dX2_init_20 rfl (by decide) q201 (by decide) (by decide) ⟨rfl, fun _ => rfl⟩ rfl ?_
  refine x_putF 2 5 dX2_init_22 (C := RX2) (T := TX2) (N := 9) rfl (by decide) q221 rfl rfl rfl rfl rfl (Nat.lt_of_lt_of_le ha (by show fc_nx M ≤ fc_nx M + 3; omega)) hs2 ?_
  refine x_eqM (cl_putr (congrArg (fun z => kdO z 5) hs2)) ?_
  refine x_aload_n dX2_init_25 rfl ?_
  refine x_ic4 dX2_init_26 ?_
  refine x_newaC (ty := .int) (n := 4) dX2_init_27 rfl (by decide) q201 (by decide) (by decide) ⟨rfl, fun _ => rfl⟩ rfl ?_
  refine x_putF 2 6 dX2_init_29 (C := RX2) (T := TX2) (N := 9) rfl (by decide) q224 rfl rfl rfl rfl rfl (Nat.lt_of_lt_of_le ha (by show fc_nx M ≤ fc_nx M + 4; omega)) hs3 ?_
  refine x_eqM (cl_putr (congrArg (fun z => kdO z 6) hs3)) ?_
  refine x_aload_n dX2_init_32 rfl ?_
  refine x_ic4 dX2_init_33 ?_
  refine x_newaC (ty := .int) (n := 4) dX2_init_34 rfl (by decide) q201 (by decide) (by decide) ⟨rfl, fun _ => rfl⟩ rfl ?_
  refine x_putF 2 7 dX2_init_36 (C := RX2) (T := TX2) (N := 9) rfl (by decide) q227 rfl rfl rfl rfl rfl (Nat.lt_of_lt_of_le ha (by show fc_nx M ≤ fc_nx M + 5; omega)) hs4 ?_
  refine x_eqM (cl_putr (congrArg (fun z => kdO z 7) hs4)) ?_
  refine x_aload_n dX2_init_39 rfl ?_
  refine x_ic4 dX2_init_40 ?_
  refine x_bipush (v := nI 80) dX2_init_41 (by decide) ?_
  refine x_gridC (ty := .boolean) (n := 4) (k := 80) dX2_init_43 (by decide) (by decide) q208 rfl (by decide) (by decide) (by decide) rfl rfl (fun _ => rfl) rfl ?_
  refine x_putF 2 8 dX2_init_47 (C := RX2) (T := TX2) (N := 9) rfl (by decide) q230 rfl rfl rfl rfl rfl (Nat.lt_of_lt_of_le ha (by show fc_nx M ≤ fc_nx M + 5 + 1 + 1 + 1 + 1 + 1; omega)) hs9 ?_
  refine x_eqM (cl_putr (congrArg (fun z => kdO z 8) hs9)) ?_
  exact x_vret dX2_init_50 rfl fc_rn.of
/-- a plan while it is read -/
def PR (g : fc_G) (M : fc_M) (S : tT) (π F nc ln : Nat) (K Z : Nat → Int32) : Prop :=
  (π + 11 ≤ fc_nx M ∧ fc_sh M π = .inl 2 ∧ (∀ j, j < 5 → fc_sh M (π + 1 + j) = .inr (.int, 4)) ∧ fc_sh M (π + 6) = .inr (.array .boolean, 4) ∧ ∀ c, c < 4 → fc_sh M (π + 7 + c) = .inr (.boolean, 80))
  ∧ ((∀ j, j < 5 → fc_ct M π (3 + j) = .ref (fc_B g + (π + 1 + j))) ∧ fc_ct M π 8 = .ref (fc_B g + (π + 6)) ∧ ∀ c, c < 4 → fc_ct M (π + 6) c = .ref (fc_B g + (π + 7 + c)))
  ∧ ((S π 0 = nI F ∧ S π 1 = nI nc ∧ S π 2 = nI ln) ∧ (F ≤ 80 ∧ nc ≤ 4 ∧ ln ≤ 40) ∧ 1 ≤ π)
  ∧ (∀ c, c < nc → ∀ j, j < 5 → S (π + 1 + j) c = K (10 * c + j))
  ∧ ∀ c, c < 4 → ∀ f, f < 80 → S (π + 7 + c) f = Z (80 * c + f)
theorem PR_gw {π F nc ln : Nat} {K Z : Nat → Int32} (h : PR g M S π F nc ln K Z) (e : gw M S M1 S1) : PR g M1 S1 π F nc ln K Z := by
  obtain ⟨⟨a1, a2, a3, a4, a5⟩, ⟨b1, b2, b3⟩, ⟨⟨c1, c2, c3⟩, c4, c5⟩, d1, d2⟩ := h
  have es : ∀ a, π ≤ a → a < π + 11 → fc_sh M1 a = fc_sh M a := fun a _ _ => (e.2.2.1 a (by omega)).1
  have ec : ∀ a k, π ≤ a → a < π + 11 → fc_ct M1 a k = fc_ct M a k := fun a k _ _ => (e.2.2.1 a (by omega)).2 k (by omega)
  have eS : ∀ a k, π ≤ a → a < π + 11 → S1 a k = S a k := fun a k _ _ => e.2.2.2 a k (by omega) (by omega)
  exact ⟨⟨Nat.le_trans a1 e.1, (es _ (by omega) (by omega)).trans a2, fun j hj => (es _ (by omega) (by omega)).trans (a3 j hj), (es _ (by omega) (by omega)).trans a4, fun c hc => (es _ (by omega) (by omega)).trans (a5 c hc)⟩, ⟨fun j hj => (ec _ _ (by omega) (by omega)).trans (b1 j hj), (ec _ _ (by omega) (by omega)).trans b2, fun c hc => (ec _ _ (by omega) (by omega)).trans (b3 c hc)⟩, ⟨⟨(eS _ _ (by omega) (by omega)).trans c1, (eS _ _ (by omega) (by omega)).trans c2, (eS _ _ (by omega) (by omega)).trans c3⟩, c4, c5⟩, fun c hc j hj => (eS _ _ (by omega) (by omega)).trans (d1 c hc j hj), fun c hc f hf => (eS _ _ (by omega) (by omega)).trans (d2 c hc f hf)⟩
/-- a car's number is laid -/
theorem PR_n {π F nc ln i : Nat} {K Z : Nat → Int32} {v : Int32} (h : PR g M S π F nc ln K Z) (hi : i < 5) : PR g M (tu S (π + 1 + i) nc v) π F nc ln (up K (10 * nc + i) v) Z := by
  obtain ⟨a, b, ⟨⟨c1, c2, c3⟩, c4, c5⟩, d1, d2⟩ := h
  exact ⟨a, b, ⟨⟨(if_neg (fun z => by omega)).trans c1, (if_neg (fun z => by omega)).trans c2, (if_neg (fun z => by omega)).trans c3⟩, c4, c5⟩, fun c hc j hj => by rw [up_n (by omega)]; exact (if_neg (fun z => by omega)).trans (d1 c hc j hj), fun c hc f hf => (if_neg (fun z => by omega)).trans (d2 c hc f hf)⟩
theorem PR_c {π F nc ln : Nat} {K Z : Nat → Int32} (h : PR g M S π F nc ln K Z) (hn : nc < 4) (hc : ∀ j, j < 5 → S (π + 1 + j) nc = K (10 * nc + j)) : PR g M (tu S π 1 (nI (nc + 1))) π F (nc + 1) ln K Z := by
  obtain ⟨a, b, ⟨⟨c1, c2, c3⟩, ⟨c4, c5, c6⟩, c7⟩, d1, d2⟩ := h
  refine ⟨a, b, ⟨⟨(if_neg (fun z => by omega)).trans c1, tu_at, (if_neg (fun z => by omega)).trans c3⟩, ⟨c4, by omega, c6⟩, c7⟩, fun c hc2 j hj => (if_neg (fun z => by omega)).trans ?_, fun c hc2 f hf => (if_neg (fun z => by omega)).trans (d2 c hc2 f hf)⟩
  by_cases e : c = nc
  · subst e; exact hc j hj
  · exact d1 c (by omega) j hj
theorem PR_f {π F nc ln F2 : Nat} {K Z : Nat → Int32} (h : PR g M S π F nc ln K Z) (hF : F2 ≤ 80) : PR g M (tu S π 0 (nI F2)) π F2 nc ln K Z := by
  obtain ⟨a, b, ⟨⟨c1, c2, c3⟩, ⟨c4, c5, c6⟩, c7⟩, d1, d2⟩ := h
  exact ⟨a, b, ⟨⟨tu_at, (if_neg (fun z => by omega)).trans c2, (if_neg (fun z => by omega)).trans c3⟩, ⟨hF, c5, c6⟩, c7⟩, fun c hc2 j hj => (if_neg (fun z => by omega)).trans (d1 c hc2 j hj), fun c hc2 f hf => (if_neg (fun z => by omega)).trans (d2 c hc2 f hf)⟩
theorem PR_l {π F nc ln : Nat} {K Z : Nat → Int32} (h : PR g M S π F nc ln K Z) (hl : ln < 40) : PR g M (tu S π 2 (nI (ln + 1))) π F nc (ln + 1) K Z := by
  obtain ⟨a, b, ⟨⟨c1, c2, c3⟩, ⟨c4, c5, c6⟩, c7⟩, d1, d2⟩ := h
  exact ⟨a, b, ⟨⟨(if_neg (fun z => by omega)).trans c1, (if_neg (fun z => by omega)).trans c2, tu_at⟩, ⟨c4, c5, by omega⟩, c7⟩, fun c hc2 j hj => (if_neg (fun z => by omega)).trans (d1 c hc2 j hj), fun c hc2 f hf => (if_neg (fun z => by omega)).trans (d2 c hc2 f hf)⟩
theorem PR_s {π F nc ln c f : Nat} {K Z : Nat → Int32} (h : PR g M S π F nc ln K Z) (hc : c < 4) (hf : f < 80) : PR g M (tu S (π + 7 + c) f (nI 1)) π F nc ln K (up Z (80 * c + f) (nI 1)) := by
  obtain ⟨a, b, ⟨⟨c1, c2, c3⟩, c4, c5⟩, d1, d2⟩ := h
  refine ⟨a, b, ⟨⟨(if_neg (fun z => by omega)).trans c1, (if_neg (fun z => by omega)).trans c2, (if_neg (fun z => by omega)).trans c3⟩, c4, c5⟩, fun c2 hc2 j hj => (if_neg (fun z => by omega)).trans (d1 c2 hc2 j hj), fun c2 hc2 f2 hf2 => ?_⟩
  by_cases e : c2 = c ∧ f2 = f
  · rw [e.1, e.2, up_s]; exact tu_at
  · rw [up_n (by omega)]; exact (if_neg (fun z => by omega)).trans (d2 c2 hc2 f2 hf2)
def nuP (g : fc_G) (M : fc_M) (S : tT) (U : tU) (E : tEn) (q : tTk) (a b : Int32) : Outcome → fc_M → Prop := fun o M2 => (pNu E a b q = .ok (nxt E q) ∧ (a ≤ q.2.2.2 ∧ q.2.2.2 ≤ b) ∧ o = .returned (some (.int q.2.2.2)) ∧ ∃ M' S', M2 = cl M' S' U ∧ jw M S q.1 1 M' S' (nxt E q).1 ∧ ctk g M' S' E (nxt E q) ∧ S' 0 10 = S 0 10) ∨ (∃ e, pNu E a b q = .error e ∧ rdE g M S U q.1 e o M2)
theorem kG_X0_X0_number : GoodIn lw_all (wsV RX0 293 RX0 yX0_number (ws_ yX0_number cX0_number 4 (some .int))) := lw_V q818 q820 qs19 q118 q821
theorem kP_X0_number : kPar yX0_number 2 := by decide +kernel
set_option maxHeartbeats 1000000 in
theorem d_number (hF : LF g M) (hW : WD g M) (hk : ctk g M S E q) {a b : Int32} : fc_CX g l yX0_number cX0_number 4 (some .int) 8 [.ref (fc_B g + 0), .int a, .int b] (cl M S U) (nuP g M S U E q a b) := by
  refine fc_enter (by decide) (Nat.le_of_ble_eq_true rfl) rfl ?_
  obtain ⟨hT, hV, κ, hA, hR⟩ := id hk
  refine x_aload_n dX0_number_0 rfl ?_
  refine x_aload_n dX0_number_1 rfl ?_
  refine q_getr 0 6 dX0_number_2 (C := RX0) (T := TX0) (N := 30) rfl (by decide) q401 (show 0 < fc_nx M by have := hF.1; omega) (hF.2.2 0 _ rfl) rfl hA.1 ?_
  refine x_tok 3 dX0_number_5 (by decide) rfl q593 ?_
  refine x_acmpT_ne (tgt := 15) dX0_number_8 (by decide) hA.2.1 (by decide) (fun hκ => ?_) (fun hκ => ?_)
  · refine x_ic0 dX0_number_15 ?_
    rw [show nI 0 = bI False by decide]
    exact k_must hF hk q821 dX0_number_16 kG_X0_X0_must (by omega) (Nat.le_of_ble_eq_true rfl) (fun z => z.elim) (fun _ x M2 S2 h1 h2 => Or.inr ⟨(nI 1, q.1), by rw [pNu, if_neg (fun z => hκ ((tokR_num hR).mpr z))], x, M2, S2, rfl, rfl, h1, h2⟩)
  · refine x_ic1 dX0_number_11 ?_
    refine x_goto (tgt := 16) dX0_number_12 (by decide) ?_
    have hP := (tokR_num hR).mp hκ
    rw [show nI 1 = bI True by decide]
    refine k_must hF hk q821 dX0_number_16 kG_X0_X0_must (by omega) (Nat.le_of_ble_eq_true rfl) (fun _ => ?_) (fun z => absurd trivial z)
    refine x_aload_n dX0_number_19 rfl ?_
    refine q_geti 0 9 dX0_number_20 (C := RX0) (T := TX0) (N := 30) rfl (by decide) q404 (show 0 < fc_nx M by have := hF.1; omega) (hF.2.2 0 _ rfl) rfl (tokR_val hR hP) ?_
    refine x_iload_n dX0_number_23 rfl ?_
    refine x_iload_n dX0_number_24 rfl ?_
    refine k_S3i dX0_number_25 kG_X0_X0_isIn kP_X0_isIn (by omega) (by decide) (Nat.le_of_ble_eq_true rfl) d_isIn ?_
    refine x_ifB_ne (tgt := 44) dX0_number_28 (by decide) (fun hc28 => ?_) (fun hc28 => ?_)
    · refine x_aload_n dX0_number_44 rfl ?_
      refine q_geti 0 9 dX0_number_45 (C := RX0) (T := TX0) (N := 30) rfl (by decide) q404 (show 0 < fc_nx M by have := hF.1; omega) (hF.2.2 0 _ rfl) rfl (tokR_val hR hP) ?_
      refine x_istore_n dX0_number_48 (by decide) rfl ?_
      refine x_aload_n dX0_number_49 rfl ?_
      refine k_next hF hW hk (fun z => absurd (hP.symm.trans z) (by decide)) dX0_number_50 kG_X0_X0_readNext (by omega) (Nat.le_of_ble_eq_true rfl) (fun M1 S1 hj hk1 h10 => ?_)
      refine x_iload_n dX0_number_53 rfl ?_
      exact x_iret dX0_number_54 rfl rfl (Or.inl ⟨by rw [pNu, if_pos hP, if_pos hc28], hc28, rfl, M1, S1, rfl, hj, hk1, h10⟩)
    · exact x_fault hF (ctk_le hk) (ctk_8 hk) rfl (Nat.le_of_ble_eq_true rfl) dX0_number_31 dX0_number_34 (fun h => x_ic2 dX0_number_35 h) dX0_number_36 dX0_number_37 dX0_number_40 dX0_number_43 q821 (by omega) (fun x M2 S2 h1 h2 => Or.inr ⟨(nI 2, q.1), by rw [pNu, if_pos hP, if_neg hc28], x, M2, S2, rfl, rfl, h1, h2⟩)
theorem k_num {nm ds : String} {cc : ByteArray} {nL : Nat} {ret : Option FieldType} {d n0 s0 : Nat} {pc : Nat} {L : List (Option Value)} {st : List Value} {Q : Outcome → fc_M → Prop} {i : Nat} {a b : Int32} (hF : LF g M) (hW : WD g M) (hk : ctk g M S E q) (hq : Cond.code ⟨"FourCars", nm, ds⟩ cc nL ret ∈ lw_all) (hd : decode cc pc = .ok (.invokevirtual i, 3)) (hG : GoodIn lw_all (wsV "FourCars" i yX0_number.cls yX0_number (ws_ yX0_number cX0_number 4 (some .int)))) (hdd : 9 ≤ d) (hrest : (st.map fun v => v.category).sum ≤ 8)
    (k1 : pNu E a b q = .ok (nxt E q) → (a ≤ q.2.2.2 ∧ q.2.2.2 ≤ b) → ∀ M' S', jw M S q.1 1 M' S' (nxt E q).1 → ctk g M' S' E (nxt E q) → S' 0 10 = S 0 10 → fc_X g l ⟨"FourCars", nm, ds⟩ cc nL ret d n0 s0 (cl M' S' U) (pc + 3) L (.int q.2.2.2 :: st) Q) (k2 : ∀ e, pNu E a b q = .error e → ∀ x M' S', je M S q.1 M' S' e.2 → fltO M' S' x e → Q (.threw (fc_B g + x)) (cl M' S' U)) : fc_X g l ⟨"FourCars", nm, ds⟩ cc nL ret d n0 s0 (cl M S U) pc L (.int b :: .int a :: .ref (fc_B g + 0) :: st) Q := by
  obtain ⟨o, M3, h, hC⟩ := d_number (l := l) (U := U) (a := a) (b := b) hF hW hk
  rcases h with ⟨h8, h7, ho, M', S', rfl, h1, h2, h3⟩ | ⟨e, h8, x, M', S', rfl, rfl, h1, h2⟩
  · exact fc_callV (As := [.int a, .int b]) 0 hd hG kP_X0_number (T := TX0) (N := 30) rfl (show 0 < fc_nx M by have := hF.1; omega) (hF.2.2 0 _ rfl) hdd (by decide) hrest rfl hC ho (k1 h8 h7 M' S' h1 h2 h3)
  · exact fc_callVt (As := [.int a, .int b]) 0 hd hG kP_X0_number (Tf := TX0) (N := 30) rfl (show 0 < fc_nx M by have := hF.1; omega) (hF.2.2 0 _ rfl) hdd (by decide) hrest rfl hq hC (k2 e h8 x M' S' h1 h2)
end T99ZZT
