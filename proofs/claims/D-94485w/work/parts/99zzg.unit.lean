set_option maxRecDepth 100000
section T99ZZG
variable {g : fc_G} {l : Launch} {M : fc_M} {S : tT} {U : tU} {E : tEn} {q : tTk}
theorem kG_X0_X0_readNext : GoodIn lw_all (wsV RX0 223 RX0 yX0_readNext (ws_ yX0_readNext cX0_readNext 2 (none))) := lw_V q513 q515 qs2 q118 q516
theorem kP_X0_readNext : kPar yX0_readNext 0 := by decide +kernel
theorem kG_X0_X0_isSign : GoodIn lw_all (wsV RX0 215 RX0 yX0_isSign (ws_ yX0_isSign cX0_isSign 2 (some .boolean))) := lw_V q760 q762 qs11 q118 q763
theorem kP_X0_isSign : kPar yX0_isSign 1 := by decide +kernel
theorem kG_X0_X0_isWord : GoodIn lw_all (wsV RX0 248 RX0 yX0_isWord (ws_ yX0_isWord cX0_isWord 2 (some .boolean))) := lw_V q780 q782 qs12 q118 q783
theorem kP_X0_isWord : kPar yX0_isWord 1 := by decide +kernel
theorem kG_X0_X0_must : GoodIn lw_all (wsV RX0 219 RX0 yX0_must (ws_ yX0_must cX0_must 2 (none))) := lw_V q655 q657 qs6 q118 q658
theorem kP_X0_must : kPar yX0_must 1 := by decide +kernel
def fltO (M : fc_M) (S : tT) (x : Nat) (e : Int32 × Nat) : Prop := x < fc_nx M ∧ fc_sh M x = .inl 7 ∧ S x 6 = e.1 ∧ S x 7 = nI e.2
def rdE (g : fc_G) (M : fc_M) (S : tT) (U : tU) (p : Nat) (e : Int32 × Nat) : Outcome → fc_M → Prop := fun o M2 => ∃ x M' S', o = .threw (fc_B g + x) ∧ M2 = cl M' S' U ∧ je M S p M' S' e.2 ∧ fltO M' S' x e
def rdK (g : fc_G) (M : fc_M) (S : tT) (U : tU) (E : tEn) (p dp : Nat) (r : tTk × tLs) : Outcome → fc_M → Prop := fun o M2 => ∃ x M' S', o = .returned (some (.ref (fc_B g + x))) ∧ M2 = cl M' S' U ∧ jw M S p 0 M' S' r.1.1 ∧ ctk g M' S' E r.1 ∧ S' 0 10 = nI dp ∧ tmI g M' S' r.2.length x r.2
def rdP (g : fc_G) (M : fc_M) (S : tT) (U : tU) (E : tEn) (p dp : Nat) (R : tRs) : Outcome → fc_M → Prop := match R with
  | .error e => rdE g M S U p e
  | .ok r => rdK g M S U E p dp r
theorem ctk_sm {M' : fc_M} {S' : tT} (h : ctk g M S E q) (h6 : fc_ct M' 0 6 = fc_ct M 0 6) (hS : ∀ a k, a ≤ 1 → ¬ (a = 0 ∧ k = 10) → S' a k = S a k) : ctk g M' S' E q := by
  obtain ⟨⟨a1, a2, a3⟩, a4, κ, ⟨b1, b2, b3, b4, b5⟩, b6⟩ := h
  exact ⟨⟨(hS 0 1 (by decide) (by decide)).trans a1, a2, fun k hk => by rw [hS 1 k (by decide) (by omega)]; exact a3 k hk⟩, a4, κ, ⟨h6.trans b1, b2, (hS 0 8 (by decide) (by decide)).trans b3, (hS 0 7 (by decide) (by decide)).trans b4, b5⟩, by rw [hS 0 9 (by decide) (by decide)]; exact b6⟩
theorem ctk_le (h : ctk g M S E q) : q.1 ≤ 400 := by
  have h1 := h.1.2.1
  have h2 := h.2.1.1
  have h3 := h.2.1.2.1
  omega
/-- readNext behind a token that is not the end -/
theorem k_next {y : MethodName} {cc : ByteArray} {nL : Nat} {ret : Option FieldType} {d n0 s0 : Nat} {pc : Nat} {L : List (Option Value)} {st : List Value} {Q : Outcome → fc_M → Prop} {i : Nat} (hF : LF g M) (hW : WD g M) (hk : ctk g M S E q) (hc : q.2.2.1 ≠ nI 0) (hd : decode cc pc = .ok (.invokevirtual i, 3)) (hG : GoodIn lw_all (wsV y.cls i yX0_readNext.cls yX0_readNext (ws_ yX0_readNext cX0_readNext 2 none))) (hdd : 8 ≤ d) (hrest : (st.map fun v => v.category).sum ≤ 8)
    (kk : ∀ M' S', jw M S q.1 1 M' S' (nxt E q).1 → ctk g M' S' E (nxt E q) → S' 0 10 = S 0 10 → fc_X g l y cc nL ret d n0 s0 (cl M' S' U) (pc + 3) L st Q) : fc_X g l y cc nL ret d n0 s0 (cl M S U) pc L (.ref (fc_B g + 0) :: st) Q := by
  have hv := nxt_v hk.2.1
  have hl := nxt_lt hk.2.1 hc
  obtain ⟨hT, hV, κ0, hA, hR⟩ := hk
  have h7 : S 0 7 = nI q.2.1 := hA.2.2.2.1.trans (by rw [show q.1 + (q.2.1 - q.1) = q.2.1 by have := hV.1; omega])
  obtain ⟨o, M3, ⟨ho, κ, v, hM, hκ, hR2⟩, hC⟩ := d_readNext (l := l) (U := U) (wh := E.1) (v0 := q.2.2.2) hF hT hW h7 hV.2.1
  subst hM
  refine x_V0v (P := fun M3 => M3 = _) 0 hd hG kP_X0_readNext (T := TX0) (N := 30) rfl (show 0 < fc_nx M by have := hF.1; omega) (hF.2.2 0 _ rfl) (by omega) (by decide) hrest ⟨o, _, ⟨ho, rfl⟩, hC⟩ (fun M3 e9 => ?_)
  subst e9
  have hv1 := hv.1
  refine kk _ _ ⟨⟨Nat.le_refl _, Nat.le_refl _, fun a ha => ⟨rfl, fun k hk => ct_pn hk⟩, fun a k ha hk => ?_⟩, by omega, by show fc_nx M + q.1 + 1 ≤ _; omega, by show fc_sl M + 3 * q.1 + 3 * 1 ≤ _; omega⟩ ⟨tpR_s3 hT, hv1, κ, ⟨ct_ps, hκ, rfl, ?_, ?_⟩, hR2⟩ rfl
  · show (if a = 0 then (if k = 7 then _ else if k = 8 then _ else if k = 9 then _ else S 0 k) else S a k) = S a k
    by_cases z : a = 0
    · subst z
      rw [if_pos rfl, if_neg (by omega), if_neg (by omega), if_neg (by omega)]
    · rw [if_neg z]
  · rw [show (nxt E q).1 + ((nxt E q).2.1 - (nxt E q).1) = (nxt E q).2.1 by have := hv1.1; omega]
    rfl
  · have := hv1.1
    have := hv1.2.1
    omega
theorem c_sign (hF : LF g M) (hk : ctk g M S E q) {c : Nat} (hc : 40 ≤ c ∧ c ≤ 62) : fc_CX g l yX0_isSign cX0_isSign 2 (some .boolean) 1 [.ref (fc_B g + 0), .int (nI c)] (cl M S U) (fc_re (bI (q.2.2.1 = nI (100 + c))) (cl M S U)) := by
  obtain ⟨hT, hV, κ, hA, hR⟩ := hk
  rw [← bI_congr (tokR_sg hR hc)]
  exact d_isSign hF hA
theorem c_isW (hF : LF g M) (hk : ctk g M S E q) (hE : ¬ E.1 = nI 3) {k : Nat} (hj : k < 4) : fc_CX g l yX0_isWord cX0_isWord 2 (some .boolean) 6 [.ref (fc_B g + 0), .ref (fc_sK g (14 + k))] (cl M S U) (fc_re (bI (q.2.2.1 = nI (3 + k))) (cl M S U)) := by
  obtain ⟨hT, hV, κ, hA, hR⟩ := hk
  rw [← bI_congr (tokR_wd hR (Or.inl ⟨rfl, hE⟩) (ot_tb k hj))]
  exact d_isWord hF hT hA (by omega)
/-- wordOf: which of a row of words -/
theorem k_word {y : MethodName} {cc : ByteArray} {nL : Nat} {ret : Option FieldType} {d n0 s0 : Nat} {pc : Nat} {L : List (Option Value)} {st : List Value} {Q : Outcome → fc_M → Prop} {i r N c0 : Nat} {ix : Nat → Nat} {tb : List (List Int32 × Nat)} (hF : LF g M) (hk : ctk g M S E q) (ht : (tb = rTb ∧ ¬ E.1 = nI 3) ∨ (tb = tTb ∧ E.1 = nI 3)) (hw : ∀ k, k < N → (wsB (ix k), c0 + k) ∈ tb) (hN : N < 100) (hc0 : c0 < 100) (hr1 : r < fc_nx M) (hr2 : fc_sh M r = .inr (.object "java/lang/String", N)) (hr3 : ∀ i, i < N → ix i < 37 ∧ fc_ct M r i = .ref (fc_sK g (ix i)))
    (hd : decode cc pc = .ok (.invokevirtual i, 3)) (hG : GoodIn lw_all (wsV y.cls i yX0_wordOf.cls yX0_wordOf (ws_ yX0_wordOf cX0_wordOf 3 (some .int)))) (hdd : 7 ≤ d) (hrest : (st.map fun v => v.category).sum ≤ 8)
    (k1 : ∀ k, k < N → q.2.2.1 = nI (c0 + k) → fc_X g l y cc nL ret d n0 s0 (cl M S U) (pc + 3) L (.int (nI k) :: st) Q) (k2 : (∀ k, k < N → ¬ q.2.2.1 = nI (c0 + k)) → fc_X g l y cc nL ret d n0 s0 (cl M S U) (pc + 3) L (.int (-1) :: st) Q) : fc_X g l y cc nL ret d n0 s0 (cl M S U) pc L (.ref (fc_B g + r) :: .ref (fc_B g + 0) :: st) Q := by
  obtain ⟨hT, hV, κ, hA, hR⟩ := hk
  rcases woF_code hR ht hN hw hc0 with ⟨k, h1, h2, h3⟩ | ⟨h1, h2⟩
  · refine k_V1iF hF hd hG kP_X0_wordOf rfl (by omega) (by decide) hrest (d_wordOf hF hT hA hr1 hr2 hN hr3) ?_
    rw [h3]
    exact k1 k h1 h2
  · refine k_V1iF hF hd hG kP_X0_wordOf rfl (by omega) (by decide) hrest (d_wordOf hF hT hA hr1 hr2 hN hr3) ?_
    rw [h2]
    exact k2 h1
theorem sh_new {sh : fc_Sh} {N : Nat} {f : Nat → Value} : fc_sh (fc_new M sh N f) (fc_nx M) = sh := if_pos rfl
theorem ct_new {sh : fc_Sh} {N k : Nat} {f : Nat → Value} : fc_ct (fc_new M sh N f) (fc_nx M) k = f k := if_pos rfl
theorem tu_ne {a k j : Nat} {x : Int32} (h : j ≠ k) : tu S a k x a j = S a j := if_neg (fun z => h z.2)
theorem x_newC {y : MethodName} {cc : ByteArray} {nL : Nat} {ret : Option FieldType} {d n0 s0 : Nat} {pc : Nat} {L : List (Option Value)} {st : List Value} {Q : Outcome → fc_M → Prop} {i : Nat} {C : String} {T : u_T} {N : Nat} (ci : Nat) (hd : decode cc pc = .ok (.new i, 3)) (hc : fcCl[ci]? = some (C, T, N)) (hcl : Cond.classLink y.cls i C ∈ lw_all) (hin : Cond.instantiable C N ∈ lw_all) (hini : Cond.initialized C ∈ lw_all) (h1 : ∀ k, kdO (.inl ci) k = 1 → defaultValue (fcTy ci k) = .int 0) (h2 : ∀ k, kdO (.inl ci) k ≠ 2) (kk : fc_X g l y cc nL ret d n0 s0 (cl (fc_new M (.inl ci) N (fun k => defaultValue (fcTy ci k))) (tz0 S (fc_nx M)) U) (pc + 3) L (.ref (fc_B g + fc_nx M) :: st) Q) : fc_X g l y cc nL ret d n0 s0 (cl M S U) pc L st Q :=
  x_new ci hd hc hcl hin hini (by rw [cl_newU h1 h2]; exact kk)
/-- a Fault is made and thrown -/
theorem x_fault {cc : ByteArray} {nL : Nat} {ret : Option FieldType} {nm ds : String} {d n0 s0 : Nat} {pc k : Nat} {L : List (Option Value)} {st : List Value} {Q : Outcome → fc_M → Prop} (hF : LF g M) {p : Nat} (hp : p ≤ 400) (h8 : S 0 8 = nI p) (hL : L[0]? = some (some (.ref (fc_B g + 0)))) (hrest : (st.map fun v => v.category).sum ≤ 7)
    (d0 : decode cc pc = .ok (.new 210, 3)) (d3 : decode cc (pc + 3) = .ok (.dup, 1)) (d4 : ∀ {M : fc_M} {st : List Value}, fc_X g l ⟨"FourCars", nm, ds⟩ cc nL ret d n0 s0 M (pc + 3 + 1 + 1) L (.int (nI k) :: st) Q → fc_X g l ⟨"FourCars", nm, ds⟩ cc nL ret d n0 s0 M (pc + 3 + 1) L st Q) (d5 : decode cc (pc + 3 + 1 + 1) = .ok (.aload_n 0, 1)) (d6 : decode cc (pc + 3 + 1 + 1 + 1) = .ok (.getfield 148, 3)) (d9 : decode cc (pc + 3 + 1 + 1 + 1 + 3) = .ok (.invokespecial 212, 3)) (d12 : decode cc (pc + 3 + 1 + 1 + 1 + 3 + 3) = .ok (.athrow, 1)) (hq : Cond.code ⟨"FourCars", nm, ds⟩ cc nL ret ∈ lw_all) (hdd : 4 ≤ d)
    (hQ : ∀ x M' S', je M S p M' S' p → fltO M' S' x (nI k, p) → Q (.threw (fc_B g + x)) (cl M' S' U)) : fc_X g l ⟨"FourCars", nm, ds⟩ cc nL ret d n0 s0 (cl M S U) pc L st Q := by
  have h0 := hF.1
  refine x_newC 7 d0 (C := RX7) (T := TX7) (N := 8) rfl q508 q659 q135 (fun k hk => ?_) (fun k => ?_) ?_
  · match k, hk with
    | 0, hk => cases hk
    | 1, hk => cases hk
    | 2, hk => cases hk
    | 3, hk => cases hk
    | 4, hk => cases hk
    | 5, _ => rfl
    | 6, _ => rfl
    | k + 7, _ => rfl
  · match k with
    | 0 => decide
    | 1 => decide
    | 2 => decide
    | 3 => decide
    | 4 => decide
    | 5 => decide
    | 6 => decide
    | k + 7 => exact (by decide : (1 : Nat) ≠ 2)
  have hg := gw.new (M := M) (S := S) (sh := .inl 7) (N := 8) (fv := fun k => defaultValue (fcTy 7 k))
  have hF2 := LF_gw hF hg
  have hsn : fc_sh (fc_new M (.inl 7) 8 (fun k => defaultValue (fcTy 7 k))) (fc_nx M) = .inl 7 := sh_new
  refine x_dup d3 rfl ?_
  refine d4 ?_
  refine x_aload_n d5 hL ?_
  refine q_geti 0 8 d6 (C := RX0) (T := TX0) (N := 30) rfl (by decide) q403 (show 0 < fc_nx M + 1 by omega) (hF2.2.2 0 _ rfl) rfl ((tz0_lt (by omega)).trans h8) ?_
  refine x_I2 d9 q697 q135 q695 q696 rfl kP_X7_init (by omega) (by decide) (by simp only [List.map_cons, List.sum_cons]; show 1 + _ ≤ 8; omega) (d_iFault (show fc_nx M < fc_nx M + 1 by omega) hsn) ?_
  refine x_athrow d12 hq (hQ _ _ _ ⟨((hg.fltx (Nat.le_refl _)).tux (Nat.le_refl _)).tux (Nat.le_refl _), ⟨Nat.le_refl _, hp⟩, ?_, ?_⟩ ⟨show fc_nx M < fc_nx M + 1 by omega, hsn, (tu_ne (by decide)).trans tu_at, tu_at⟩)
  · show fc_nx M + 1 + p ≤ fc_nx M + p + 1; omega
  · show fc_sl M + 8 + 3 * p ≤ fc_sl M + 3 * p + 8; omega
set_option maxHeartbeats 1000000 in
theorem d_mustT {x : Int32} (hx : ¬ x = 0) : fc_CX g l yX0_must cX0_must 2 (none) 0 [.ref (fc_B g + 0), .int x] (M) (fc_rn M) := by
  refine fc_enter (by decide) (Nat.le_of_ble_eq_true rfl) rfl ?_
  refine x_iload_n dX0_must_0 rfl ?_
  refine x_if_ne (tgt := 17) dX0_must_1 (by decide) (fun hc1 => ?_) (fun hc1 => ?_)
  · exact x_vret dX0_must_17 rfl fc_rn.of
  · exact absurd hc1 hx
theorem d_mustF (hF : LF g M) {p : Nat} (hp : p ≤ 400) (h8 : S 0 8 = nI p) : fc_CX g l yX0_must cX0_must 2 none 4 [.ref (fc_B g + 0), .int (nI 0)] (cl M S U) (rdE g M S U p (nI 1, p)) := by
  refine fc_enter (by decide) (Nat.le_of_ble_eq_true rfl) rfl ?_
  refine x_iload_n dX0_must_0 rfl ?_
  refine x_if_ne (tgt := 17) dX0_must_1 (by decide) (fun h => absurd rfl h) (fun _ => ?_)
  exact x_fault hF hp h8 rfl (Nat.le_of_ble_eq_true rfl) dX0_must_4 dX0_must_7 (fun h => x_ic1 dX0_must_8 h) dX0_must_9 dX0_must_10 dX0_must_13 dX0_must_16 q658 (by omega) (fun x M2 S2 h1 h2 => ⟨x, M2, S2, rfl, rfl, h1, h2⟩)
theorem k_must {nm ds : String} {cc : ByteArray} {nL : Nat} {ret : Option FieldType} {d n0 s0 : Nat} {pc : Nat} {L : List (Option Value)} {st : List Value} {Q : Outcome → fc_M → Prop} {i : Nat} {P : Prop} [Decidable P] (hF : LF g M) (hk : ctk g M S E q) (hq : Cond.code ⟨"FourCars", nm, ds⟩ cc nL ret ∈ lw_all) (hd : decode cc pc = .ok (.invokevirtual i, 3)) (hG : GoodIn lw_all (wsV "FourCars" i yX0_must.cls yX0_must (ws_ yX0_must cX0_must 2 none))) (hdd : 5 ≤ d) (hrest : (st.map fun v => v.category).sum ≤ 8)
    (k1 : P → fc_X g l ⟨"FourCars", nm, ds⟩ cc nL ret d n0 s0 (cl M S U) (pc + 3) L st Q) (k2 : ¬ P → ∀ x M' S', je M S q.1 M' S' q.1 → fltO M' S' x (nI 1, q.1) → Q (.threw (fc_B g + x)) (cl M' S' U)) : fc_X g l ⟨"FourCars", nm, ds⟩ cc nL ret d n0 s0 (cl M S U) pc L (.int (bI P) :: .ref (fc_B g + 0) :: st) Q := by
  by_cases h : P
  · rw [bI_t h]
    exact k_V1vF hF hd hG kP_X0_must rfl (show 0 + 1 ≤ d by omega) (by decide) hrest (d_mustT (by decide)) (k1 h)
  · rw [bI_f h]
    have hp := ctk_le hk
    obtain ⟨o, M3, ⟨x, M', S', ho, hM, h1, h2⟩, hC⟩ := d_mustF (l := l) (U := U) (p := q.1) hF hp (by obtain ⟨-, -, κ, hA, -⟩ := hk; exact hA.2.2.1)
    subst ho
    subst hM
    exact fc_callVt (As := [.int (nI 0)]) 0 hd hG kP_X0_must (Tf := TX0) (N := 30) rfl (show 0 < fc_nx M by have := hF.1; omega) (hF.2.2 0 _ rfl) hdd (by decide) hrest rfl hq hC (k2 h x M' S' h1 h2)
end T99ZZG
