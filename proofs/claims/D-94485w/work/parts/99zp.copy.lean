set_option maxRecDepth 100000
/-! ===== System.arraycopy, from place 0 to place 0 ===== -/
section T99ZP
variable {g : fc_G} {l : Launch} {y : MethodName} {cc : ByteArray} {nL : Nat} {ret : Option FieldType} {d n0 s0 : Nat} {M : fc_M} {pc : Nat} {L : List (Option Value)} {st : List Value} {Q : Outcome → fc_M → Prop}
def fc_cp (M : fc_M) (a0 a n : Nat) : fc_M := (M.1, M.2.1, fun b k => if b = a ∧ k < n then M.2.2 a0 k else M.2.2 b k)
theorem fc_R_cp {H H' : Heap} {a0 a n : Nat} (hR : fc_R g M H) (ha : a < fc_nx M) (hc : fc_cell g (fc_B g + a) (fc_sh M a) (fun k => if k < n then fc_ct M a0 k else fc_ct M a k) H') (hz : H'.size = H.size) (ho : ∀ q : Nat, q ≠ fc_B g + a → H'[q]? = H[q]?) : fc_R g (fc_cp M a0 a n) H' := by
  obtain ⟨h1, h2, h3⟩ := hR
  refine ⟨by rw [hz]; exact h1, fun q hq => by rw [ho q (by omega)]; exact h2 q hq, fun b hb => ?_⟩
  by_cases hba : b = a
  · subst hba
    have e : fc_ct (fc_cp M a0 b n) b = fun k => if k < n then fc_ct M a0 k else fc_ct M b k := by
      funext k
      show (if b = b ∧ k < n then M.2.2 a0 k else M.2.2 b k) = (if k < n then M.2.2 a0 k else M.2.2 b k)
      by_cases hk : k < n
      · rw [if_pos ⟨rfl, hk⟩, if_pos hk]
      · rw [if_neg (fun z => hk z.2), if_neg hk]
    rw [e]
    exact hc
  · have e : fc_ct (fc_cp M a0 a n) b = fc_ct M b := funext fun k => if_neg (fun z => hba z.1)
    rw [e]
    have hb' : b < fc_nx M := hb
    have h4 := h3 b hb'
    show fc_cell g (fc_B g + b) (fc_sh M b) (fc_ct M b) H'
    have hq : H'[fc_B g + b]? = H[fc_B g + b]? := ho _ (by omega)
    cases hs : fc_sh M b with
    | inl ci =>
      rw [hs] at h4
      obtain ⟨r, r1, r2⟩ := h4
      exact ⟨r, r1, r2.kept hq⟩
    | inr q =>
      rw [hs] at h4
      obtain ⟨ty, n⟩ := q
      exact ⟨h4.1, by rw [hq]; exact h4.2⟩
theorem x_copy {a0 a n m0 m1 i : Nat} {ty : FieldType} (hd : decode cc pc = .ok (.invokestatic i, 3)) (hl : Cond.methodLink y.cls i arraycopyName ∈ lw_all) (ha0 : a0 < fc_nx M) (ha : a < fc_nx M) (hs0 : fc_sh M a0 = .inr (ty, m0)) (hs1 : fc_sh M a = .inr (ty, m1)) (hn0 : n ≤ m0) (hn1 : n ≤ m1) (hm0 : m0 < 2 ^ 31) (hm1 : m1 < 2 ^ 31) (hd1 : 1 ≤ d) (hrest : (st.map fun v => v.category).sum ≤ 8)
    (hvals : ∀ k, k < n → (∃ x, ty = .int ∧ fc_ct M a0 k = .int x) ∨ (ty = .object RX1 ∧ ∃ t, t < fc_nx M ∧ fc_sh M t = .inl 1 ∧ fc_ct M a0 k = .ref (fc_B g + t)))
    (kk : fc_X g l y cc nL ret d n0 s0 (fc_cp M a0 a n) (pc + 3) L st Q) : fc_X g l y cc nL ret d n0 s0 M pc L (.int (nI n) :: .int (nI 0) :: .ref (fc_B g + a) :: .int (nI 0) :: .ref (fc_B g + a0) :: st) Q := by
  obtain ⟨o, Mf, hQ, hb0, hE⟩ := kk
  refine ⟨o, Mf, hQ, hb0, fun R p e s m args below meth c H ls locs hSt h1 h2 hR hS hL => ?_⟩
  obtain ⟨hx, hb, hml, hown, hrt, hlk, hts, hnm, henv, hrm, hz0⟩ := id hSt
  obtain ⟨g1, c1⟩ := fc_arr hR ha0 hs0
  obtain ⟨g2, c2⟩ := fc_arr hR ha hs1
  have hnn : n < 2 ^ 31 := by omega
  intro T hT X
  obtain ⟨-, k0, hk0, cm0, hkk0⟩ := (henv.2.1 _ g1).1 m0 (fc_ct M a0)
  obtain ⟨-, k1, hk1, cm1, hkk1⟩ := (henv.2.1 _ g2).1 m1 (fc_ct M a)
  have e00 : (nI 0).toNatClampNeg = 0 := rfl
  have enn : (nI n).toNatClampNeg = n := nI_clamp hnn
  have e9 : nativeFrameWords "java/lang/System" "arraycopy" 5 = 7 := by decide +kernel
  obtain ⟨vm', X', step⟩ := X.arraycopy hx hown (hts _ hl) (hts _ q1064) (hts _ q1063) (hts _ q143) (src := fc_B g + a0) (dst := fc_B g + a) (cs := arrV (fc_dA g ty) m0 (fc_ct M a0)) (cd := arrV (fc_dA g ty) m1 (fc_ct M a)) (srcPos := nI 0) (destPos := nI 0) (n := nI n) (by rw [hT]; exact c1) (by rw [hT]; exact c2)
    (fun _ h => by cases h) (fun _ h => by cases h) (fun h => by cases h) (fun h => by cases h) hk0 hk1 hkk0 hkk1 (by cases hr : refKind ty <;> simp) (by decide) (by decide) (nI_pos hnn)
    (by rw [nI_toInt hnn]; show ¬ (0 : Int) + (n : Int) > ((arrV (fc_dA g ty) m0 (fc_ct M a0)).slots.size : Int); rw [arrV_size]; omega)
    (by rw [nI_toInt hnn]; show ¬ (0 : Int) + (n : Int) > ((arrV (fc_dA g ty) m1 (fc_ct M a)).slots.size : Int); rw [arrV_size]; omega)
    (fun vm₁ hal i hi => by
      rw [enn] at hi
      have e : (arrV (fc_dA g ty) m0 (fc_ct M a0)).slots.getD ((nI 0).toNatClampNeg + i) .null = fc_ct M a0 i := by
        rw [e00, Nat.zero_add, Array.getD_eq_getD_getElem?, arrV_read _ _ (by omega)]
        rfl
      rw [e]
      rcases hvals i hi with ⟨x, hty, hv⟩ | ⟨hty, t, ht, hst, hv⟩
      · rw [hv, hty]
        exact ⟨rfl, trivial⟩
      · rw [hv, hty]
        have h4 := hR.2.2 t ht
        rw [hst] at h4
        obtain ⟨r, h1', cell, q1, q2, q3, q4⟩ := h4
        have hr : r = (RX1, TX1, 4) := Option.some.inj (h1'.symm.trans rfl)
        subst hr
        have hfc := (henv.1.1 1 _ rfl).2.1
        obtain ⟨-, -, kA, comp, r1, r2, r3, -⟩ := henv.2.1 _ g2
        cases hk1.symm.trans r1
        cases hkk1.symm.trans r2
        have hcm : cm1 = (fc_D g).1 1 := Option.some.inj ((r3 _ hty).symm.trans hfc)
        obtain ⟨kC, hkC, -⟩ := Vm.findClass_spec hfc
        obtain ⟨kC', hkC', -⟩ := hal.2.2 _ _ hkC
        refine ⟨rfl, cell, (show T.heap[fc_B g + t]? = some cell by rw [hT]; exact q1), (fun q h => by rw [q3] at h; cases h), ⟨kC', by rw [q2]; exact hkC'⟩, ⟨kC', by rw [hcm]; exact hkC'⟩, ?_⟩
        show vm₁.assignable cell.cls cm1 = true
        rw [q2, hcm]
        show vm₁.assignableAux (255 + 1) _ _ = true
        rw [Vm.assignableAux, Bool.or_eq_true, beq_iff_eq]
        exact Or.inl rfl)
    (g := F0 m pc ls (.int (nI n) :: .int (nI 0) :: .ref (fc_B g + a) :: .int (nI 0) :: .ref (fc_B g + a0) :: st)) rfl (hL.1.trans hml.symm) (rest := st) rfl (by rw [hb]; exact hd) (by have := hrm.1; omega) (by rw [e9]; show 2 * 0 + (st.map fun v => v.category).sum + (7 + 11) ≤ R.locals; have := hrm.2.1; omega)
  have e1 : copied (arrV (fc_dA g ty) m0 (fc_ct M a0)) (arrV (fc_dA g ty) m1 (fc_ct M a)) (nI 0) (nI 0) (nI n) = arrV (fc_dA g ty) m1 (fun k => if k < n then fc_ct M a0 k else fc_ct M a k) := by
    have e2 := va_copied (fun z : Value => z) (fc_dA g ty) (fc_dA g ty) (n0 := m0) (n1 := m1) (sp := 0) (dp := 0) (n := n) (fc_ct M a0) (fc_ct M a) (by omega)
    have e3 : (fun j => va_cpy (fc_ct M a0) (fc_ct M a) 0 0 n j) = fun k => if k < n then fc_ct M a0 k else fc_ct M a k := by
      funext k
      unfold va_cpy
      by_cases hk : k < n
      · rw [if_pos ⟨Nat.zero_le _, by omega⟩, if_pos hk, Nat.zero_add, Nat.sub_zero]
      · rw [if_neg (by omega), if_neg hk]
    rw [e3] at e2
    unfold copied
    rw [e00, enn]
    exact e2
  rw [e1] at X' step
  have hl9 : fc_B g + a < H.size := (Array.getElem?_eq_some_iff.mp c2).1
  have hheap : ((T.setVm vm').setCell (fc_B g + a) (arrV (fc_dA g ty) m1 (fun k => if k < n then fc_ct M a0 k else fc_ct M a k))).heap = H.setIfInBounds (fc_B g + a) (arrV (fc_dA g ty) m1 (fun k => if k < n then fc_ct M a0 k else fc_ct M a k)) := by rw [← hT]; rfl
  have oq : ∀ q : Nat, q ≠ fc_B g + a → (H.setIfInBounds (fc_B g + a) (arrV (fc_dA g ty) m1 (fun k => if k < n then fc_ct M a0 k else fc_ct M a k)))[q]? = H[q]? := fun q hq => by simp [Array.getElem?_setIfInBounds, Ne.symm hq]
  have zq : (H.setIfInBounds (fc_B g + a) (arrV (fc_dA g ty) m1 (fun k => if k < n then fc_ct M a0 k else fc_ct M a k))).size = H.size := by simp
  obtain ⟨t, a1, b1⟩ := hE R p e s m args below meth c _ ls _ hSt h1 h2 (fc_R_cp hR ha (by rw [hs1]; exact ⟨g2, by simp [Array.getElem?_setIfInBounds, hl9]⟩) zq oq) ⟨by rw [zq]; exact hS.1, fun q g1 g2 => by
      rw [oq q (fun e => g2 (by rw [e]; exact Nat.le_add_right _ _))]
      exact hS.2.1 q g1 g2, fun q hq => by
      rcases List.mem_append.mp hq with h | h
      · exact hS.2.2 q h
      · obtain ⟨z, -, hz⟩ := List.mem_map.mp h
        rw [← hz]
        exact Nat.le_add_right _ _⟩ hL _ hheap X'
  exact ⟨t, step t a1, b1⟩
/-- in the class's memory: ints -/
def cpS (S : tT) (a0 a n : Nat) : tT := fun b k => if b = a ∧ k < n then S a0 k else S b k
theorem cl_cpi {S : tT} {U : tU} {a0 a n m0 m1 : Nat} (h0 : fc_sh M a0 = .inr (.int, m0)) (h1 : fc_sh M a = .inr (.int, m1)) : fc_cp (cl M S U) a0 a n = cl M (cpS S a0 a n) U := by
  have k0 : ∀ k, kdO (M.2.1 a0) k = 1 := fun k => by rw [show M.2.1 a0 = .inr (.int, m0) from h0]; rfl
  have k1 : ∀ k, kdO (M.2.1 a) k = 1 := fun k => by rw [show M.2.1 a = .inr (.int, m1) from h1]; rfl
  refine Prod.ext rfl (Prod.ext rfl (funext fun b => funext fun j => ?_))
  show (if b = a ∧ j < n then (if kdO (M.2.1 a0) j = 1 then Value.int (S a0 j) else if kdO (M.2.1 a0) j = 2 then .long (U a0 j) else M.2.2 a0 j) else (if kdO (M.2.1 b) j = 1 then Value.int (S b j) else if kdO (M.2.1 b) j = 2 then .long (U b j) else M.2.2 b j)) = (if kdO (M.2.1 b) j = 1 then .int (if b = a ∧ j < n then S a0 j else S b j) else if kdO (M.2.1 b) j = 2 then .long (U b j) else M.2.2 b j)
  by_cases e : b = a ∧ j < n
  · rw [if_pos e, if_pos (k0 j), e.1, if_pos (k1 j), if_pos ⟨rfl, e.2⟩]
  · rw [if_neg e, if_neg e]
theorem cl_cpr {S : tT} {U : tU} {a0 a n m0 m1 : Nat} {C : String} (h0 : fc_sh M a0 = .inr (.object C, m0)) (h1 : fc_sh M a = .inr (.object C, m1)) : fc_cp (cl M S U) a0 a n = cl (fc_cp M a0 a n) S U := by
  have k0 : ∀ k, kdO (M.2.1 a0) k = 0 := fun k => by rw [show M.2.1 a0 = .inr (.object C, m0) from h0]; rfl
  have k1 : ∀ k, kdO (M.2.1 a) k = 0 := fun k => by rw [show M.2.1 a = .inr (.object C, m1) from h1]; rfl
  refine Prod.ext rfl (Prod.ext rfl (funext fun b => funext fun j => ?_))
  show (if b = a ∧ j < n then (if kdO (M.2.1 a0) j = 1 then Value.int (S a0 j) else if kdO (M.2.1 a0) j = 2 then .long (U a0 j) else M.2.2 a0 j) else (if kdO (M.2.1 b) j = 1 then Value.int (S b j) else if kdO (M.2.1 b) j = 2 then .long (U b j) else M.2.2 b j)) = (if kdO (M.2.1 b) j = 1 then .int (S b j) else if kdO (M.2.1 b) j = 2 then .long (U b j) else (if b = a ∧ j < n then M.2.2 a0 j else M.2.2 b j))
  by_cases e : b = a ∧ j < n
  · rw [if_pos e, e.1, if_neg (by rw [k0 j]; decide), if_neg (by rw [k0 j]; decide), if_neg (by rw [k1 j]; decide), if_neg (by rw [k1 j]; decide), if_pos ⟨rfl, e.2⟩]
  · rw [if_neg e, if_neg e]
end T99ZP
