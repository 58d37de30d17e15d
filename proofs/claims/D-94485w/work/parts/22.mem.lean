set_option maxRecDepth 100000
section FCM
variable {g : fc_G} {l : Launch} {y : MethodName} {cc : ByteArray} {nL : Nat} {ret : Option FieldType} {d n0 s0 : Nat} {M : fc_M} {pc : Nat} {L : List (Option Value)} {st : List Value} {Q : Outcome → fc_M → Prop}
/-- the memory behind one written place -/
theorem fc_R_put {H H' : Heap} {a k : Nat} {v : Value} (hR : fc_R g M H) (ha : a < fc_nx M) (hc : fc_cell g (fc_B g + a) (fc_sh M a) (updV (fc_ct M a) k v) H') (hz : H'.size = H.size) (ho : ∀ q, q ≠ fc_B g + a → H'[q]? = H[q]?) : fc_R g (fc_put M a k v) H' := by
  obtain ⟨h1, h2, h3⟩ := hR
  refine ⟨by rw [hz]; exact h1, fun q hq => by rw [ho q (by omega)]; exact h2 q hq, fun b hb => ?_⟩
  by_cases hba : b = a
  · subst hba
    have e : fc_ct (fc_put M b k v) b = updV (fc_ct M b) k v := by
      funext j
      simp [fc_ct, fc_put, updV]
    rw [e]
    exact hc
  · have e : fc_ct (fc_put M a k v) b = fc_ct M b := by
      funext j
      simp [fc_ct, fc_put, hba]
    rw [e]
    have hb' : b < fc_nx M := hb
    have h4 := h3 b hb'
    show fc_cell g (fc_B g + b) (fc_sh M b) (fc_ct M b) H'
    have hq : H'[fc_B g + b]? = H[fc_B g + b]? := ho _ (by omega)
    cases hs : fc_sh M b with
    | inl ci =>
      rw [hs] at h4
      obtain ⟨r, r1, r2⟩ := h4
      exact ⟨r, r1, r2.kept hq⟩
    | inr q =>
      rw [hs] at h4
      obtain ⟨ty, n⟩ := q
      exact ⟨h4.1, by rw [hq]; exact h4.2⟩
theorem x_getf {i a : Nat} {v : Value} {C : String} {T : u_T} {N : Nat} (ci k : Nat) (hd : decode cc pc = .ok (.getfield i, 3)) (hc : fcCl[ci]? = some (C, T, N)) (hk : k < N) (hq : Cond.fieldLink y.cls i (T k).1 (T k).2.1 (T k).2.2.1 ∈ lw_all) (ha : a < fc_nx M) (hs : fc_sh M a = .inl ci) (hv : fc_ct M a k = v)
    (kk : fc_X g l y cc nL ret d n0 s0 M (pc + 3) L (v :: st) Q) : fc_X g l y cc nL ret d n0 s0 M pc L (.ref (fc_B g + a) :: st) Q := by
  refine fc_go (fun R p e s m args below meth c H ls locs cells slots Qs Mf hSt hR hS hL w => ?_) kk
  have h4 := hR.2.2 a ha
  rw [hs] at h4
  obtain ⟨r, h1, cell, q1, q2, q3, q4⟩ := h4
  have hr : r = (C, T, N) := Option.some.inj (h1.symm.trans hc)
  subst hr
  obtain ⟨hx, hb, hml, hown, hrt, hlk, hts, hnm, henv, -⟩ := hSt
  obtain ⟨hS2, hfc, kC, hkC, hkind⟩ := henv.1.1 ci _ hc
  obtain ⟨cf, kf, fi, f, hi, hsl⟩ := hS2 k hk
  refine W.getf hx hb hown (hts _ hq) hi (u_facts hfc hkC (u_lays hts (fc_cls hc).1 hk) hi).1 q1 (by rw [q3]; exact fun h => by cases h) (v := v) ?_ rfl rfl hd w
  rw [hsl, q4 k hk, hv]
theorem x_getN {i a : Nat} {v : Value} {C : String} {T : u_T} {N : Nat} {host : String} (ci k : Nat) (hd : decode cc pc = .ok (.getfield i, 3)) (hc : fcCl[ci]? = some (C, T, N)) (hk : k < N) (hq : Cond.fieldLinkNest y.cls i (T k).1 (T k).2.1 (T k).2.2.1 host ∈ lw_tbl) (ha : a < fc_nx M) (hs : fc_sh M a = .inl ci) (hv : fc_ct M a k = v)
    (kk : fc_X g l y cc nL ret d n0 s0 M (pc + 3) L (v :: st) Q) : fc_X g l y cc nL ret d n0 s0 M pc L (.ref (fc_B g + a) :: st) Q := by
  refine fc_go (fun R p e s m args below meth c H ls locs cells slots Qs Mf hSt hR hS hL w => ?_) kk
  have h4 := hR.2.2 a ha
  rw [hs] at h4
  obtain ⟨r, h1, cell, q1, q2, q3, q4⟩ := h4
  have hr : r = (C, T, N) := Option.some.inj (h1.symm.trans hc)
  subst hr
  obtain ⟨hx, hb, hml, hown, hrt, hlk, hts, hnm, henv, -⟩ := hSt
  obtain ⟨hS2, hfc, kC, hkC, hkind⟩ := henv.1.1 ci _ hc
  obtain ⟨cf, kf, fi, f, hi, hsl⟩ := hS2 k hk
  refine va_Wgetf hx hb hown (va_Nw.use rfl (henv.2.2.1.1 _ _ _ _ _ _ hq)) hi (u_facts hfc hkC (u_lays hts (fc_cls hc).1 hk) hi).1 q1 (by rw [q3]; exact fun h => by cases h) (v := v) ?_ rfl rfl hd w
  rw [hsl, q4 k hk, hv]
theorem fc_apart {s : State} {args : Array Value} {ci : Nat} {r : vw_C} (hts : ∀ w ∈ lw_all, w.before args s = true) (henv : fc_Env g s) (hc : fcCl[ci]? = some r) : ∀ x y, x < r.2.2 → y < r.2.2 → x ≠ y → ((fc_D g).2 ci) x ≠ ((fc_D g).2 ci) y := by
  obtain ⟨C, T, N⟩ := r
  exact va_apart (own := C) hts (fc_cls hc).1 (fcTy ci) (fc_cls hc).2.2 (fc_cls hc).2.1 henv.1 hc
theorem x_putf {i a : Nat} {v : Value} {C : String} {T : u_T} {N : Nat} (ci k : Nat) (hd : decode cc pc = .ok (.putfield i, 3)) (hc : fcCl[ci]? = some (C, T, N)) (hk : k < N) (hq : Cond.fieldLink y.cls i (T k).1 (T k).2.1 (T k).2.2.1 ∈ lw_all) (hfin : (T k).2.2.2 = false) (hn : narrow (fcTy ci k) v = v) (hf : fits (fcTy ci k) v = true) (ha : a < fc_nx M) (hs : fc_sh M a = .inl ci)
    (kk : fc_X g l y cc nL ret d n0 s0 (fc_put M a k v) (pc + 3) L st Q) : fc_X g l y cc nL ret d n0 s0 M pc L (v :: .ref (fc_B g + a) :: st) Q := by
  obtain ⟨o, Mf, hQ, hb0, hE⟩ := kk
  refine ⟨o, Mf, hQ, hb0, fun R p e s m args below meth c H ls locs hSt h1 h2 hR hS hL => ?_⟩
  have h4 := hR.2.2 a ha
  rw [hs] at h4
  obtain ⟨r, h1', cell, q1, q2, q3, q4⟩ := h4
  have hr : r = (C, T, N) := Option.some.inj (h1'.symm.trans hc)
  subst hr
  obtain ⟨hx, hb, hml, hown, hrt, hlk, hts, hnm, henv, hrest⟩ := id hSt
  have hap := fc_apart hts henv hc
  obtain ⟨hS2, hfc, kC, hkC, hkind⟩ := henv.1.1 ci _ hc
  obtain ⟨cf, kf, fi, f, hi, hsl⟩ := hS2 k hk
  have hlay := hts _ ((fc_cls hc).1 _ (u_in_lay hk))
  unfold u_lay at hlay
  rw [if_neg (by rw [hfin]; decide)] at hlay
  have hst := (u_facts hfc hkC (u_lays hts (fc_cls hc).1 hk) hi).1
  have h6 := u_store hfc hkC hkind hlay hi ((fc_cls hc).2.2 k hk) hn hf
  refine W.putK hx hb (f := f) ⟨hown, hts _ hq, ⟨_, _, _, hi⟩, hst⟩ (by rw [q2]; exact h6) q1 q3 (by rw [hsl]; exact k2_hasslot (q4 k hk)) rfl rfl hd fun H' e1 e2 e3 => ?_
  rw [hsl] at e1 ⊢
  refine hE R p e s m args below meth c H' ls _ hSt h1 h2 (fc_R_put hR ha ?_ e2 e3) (hS.put e2 e3 (Nat.le_add_right _ _)) hL
  rw [hs]
  exact ⟨_, hc, ⟨_, e1, q2, q3, t_set q4 hap hk v⟩⟩
theorem x_putF {i a : Nat} {v : Value} {C : String} {T : u_T} {N : Nat} (ci k : Nat) (hd : decode cc pc = .ok (.putfield i, 3)) (hc : fcCl[ci]? = some (C, T, N)) (hk : k < N) (hq : Cond.fieldLink y.cls i (T k).1 (T k).2.1 (T k).2.2.1 ∈ lw_all) (hfin : (T k).2.2.2 = true) (hin2 : y.name = "<init>") (hdecl : (T k).1 = y.cls) (hn : narrow (fcTy ci k) v = v) (hf : fits (fcTy ci k) v = true) (ha : a < fc_nx M) (hs : fc_sh M a = .inl ci)
    (kk : fc_X g l y cc nL ret d n0 s0 (fc_put M a k v) (pc + 3) L st Q) : fc_X g l y cc nL ret d n0 s0 M pc L (v :: .ref (fc_B g + a) :: st) Q := by
  obtain ⟨o, Mf, hQ, hb0, hE⟩ := kk
  refine ⟨o, Mf, hQ, hb0, fun R p e s m args below meth c H ls locs hSt h1 h2 hR hS hL => ?_⟩
  have h4 := hR.2.2 a ha
  rw [hs] at h4
  obtain ⟨r, h1', cell, q1, q2, q3, q4⟩ := h4
  have hr : r = (C, T, N) := Option.some.inj (h1'.symm.trans hc)
  subst hr
  obtain ⟨hx, hb, hml, hown, hrt, hlk, hts, hnm, henv, hrest⟩ := id hSt
  have hap := fc_apart hts henv hc
  obtain ⟨hS2, hfc, kC, hkC, hkind⟩ := henv.1.1 ci _ hc
  obtain ⟨cf, kf, fi, f, hi, hsl⟩ := hS2 k hk
  have hlay := hts _ ((fc_cls hc).1 _ (u_in_lay hk))
  unfold u_lay at hlay
  rw [if_pos hfin] at hlay
  have hst := (u_facts hfc hkC (u_lays hts (fc_cls hc).1 hk) hi).1
  have hcf : m.cls = cf := by
    obtain ⟨_, _, c', _, _, _, -, -, hf', -, -, -, hown2, -⟩ := Cond.laysFinal_spec hlay
    have e1 : c' = cf := by have := hi.symm.trans hf'; simp at this; exact this.1.symm
    rw [hdecl] at hown2
    rw [← e1]; exact Option.some.inj (hown.symm.trans hown2)
  have h6 := u_fits hfc hkC hkind (Or.inr hlay) hi ((fc_cls hc).2.2 k hk) hn hf
  refine W.putFinK hx hb hown (hts _ hq) hi hst hcf (hnm.trans hin2) (by rw [q2]; exact h6) q1 q3 (by rw [hsl]; exact k2_hasslot (q4 k hk)) rfl rfl hd fun H' e1 e2 e3 => ?_
  rw [hsl] at e1 ⊢
  refine hE R p e s m args below meth c H' ls _ hSt h1 h2 (fc_R_put hR ha ?_ e2 e3) (hS.put e2 e3 (Nat.le_add_right _ _)) hL
  rw [hs]
  exact ⟨_, hc, ⟨_, e1, q2, q3, t_set q4 hap hk v⟩⟩
/-- arrays -/
theorem fc_arr {H : Heap} {a n : Nat} {ty : FieldType} (hR : fc_R g M H) (ha : a < fc_nx M) (hs : fc_sh M a = .inr (ty, n)) : ty ∈ fcTys ∧ H[fc_B g + a]? = some (arrV (fc_dA g ty) n (fc_ct M a)) := by
  have h4 := hR.2.2 a ha
  rw [hs] at h4
  exact h4
theorem fc_ix {i n : Nat} (hi : i < n) (hn : n < 2 ^ 31) (cA : ClassId) (f : Nat → Value) : ¬ (nI i < 0 ∨ (arrV cA n f).slots.size ≤ (nI i).toNatClampNeg) := by
  rw [arrV_size]
  exact nI_in hi hn
theorem fc_rd {i n : Nat} (hi : i < n) (hn : n < 2 ^ 31) (cA : ClassId) (f : Nat → Value) : (arrV cA n f).slots[(nI i).toNatClampNeg]? = some (f i) := by
  rw [nI_clamp (by omega), arrV_read _ _ hi]
theorem x_iald {a n i : Nat} {v : Value} (hd : decode cc pc = .ok (.iaload, 1)) (ha : a < fc_nx M) (hs : fc_sh M a = .inr (.int, n)) (hn : n < 2 ^ 31) (hi : i < n) (hv : fc_ct M a i = v)
    (kk : fc_X g l y cc nL ret d n0 s0 M (pc + 1) L (v :: st) Q) : fc_X g l y cc nL ret d n0 s0 M pc L (.int (nI i) :: .ref (fc_B g + a) :: st) Q := by
  refine fc_go (fun R p e s m args below meth c H ls locs cells slots Qs Mf hSt hR hS hL w => ?_) kk
  obtain ⟨h1, h2⟩ := fc_arr hR ha hs
  exact W.iald (v := v) hSt.1 hSt.2.1 h2 ((hSt.2.2.2.2.2.2.2.2.1.2.1 _ h1).1 n _) (fun q => by cases q) (fc_ix hi hn _ _) (by rw [fc_rd hi hn, hv]) rfl rfl hd w
theorem x_bald {a n i : Nat} {v : Value} (hd : decode cc pc = .ok (.baload, 1)) (ha : a < fc_nx M) (hs : fc_sh M a = .inr (.byte, n)) (hn : n < 2 ^ 31) (hi : i < n) (hv : fc_ct M a i = v)
    (kk : fc_X g l y cc nL ret d n0 s0 M (pc + 1) L (v :: st) Q) : fc_X g l y cc nL ret d n0 s0 M pc L (.int (nI i) :: .ref (fc_B g + a) :: st) Q := by
  refine fc_go (fun R p e s m args below meth c H ls locs cells slots Qs Mf hSt hR hS hL w => ?_) kk
  obtain ⟨h1, h2⟩ := fc_arr hR ha hs
  exact W.bald (v := v) hSt.1 hSt.2.1 h2 ((hSt.2.2.2.2.2.2.2.2.1.2.1 _ h1).1 n _) (fun q => by cases q) (fc_ix hi hn _ _) (by rw [fc_rd hi hn, hv]) rfl rfl hd w
theorem x_zald {a n i : Nat} {v : Value} (hd : decode cc pc = .ok (.baload, 1)) (ha : a < fc_nx M) (hs : fc_sh M a = .inr (.boolean, n)) (hn : n < 2 ^ 31) (hi : i < n) (hv : fc_ct M a i = v)
    (kk : fc_X g l y cc nL ret d n0 s0 M (pc + 1) L (v :: st) Q) : fc_X g l y cc nL ret d n0 s0 M pc L (.int (nI i) :: .ref (fc_B g + a) :: st) Q := by
  refine fc_go (fun R p e s m args below meth c H ls locs cells slots Qs Mf hSt hR hS hL w => ?_) kk
  obtain ⟨h1, h2⟩ := fc_arr hR ha hs
  exact W.zald (v := v) hSt.1 hSt.2.1 h2 ((hSt.2.2.2.2.2.2.2.2.1.2.1 _ h1).1 n _) (fun q => by cases q) (fc_ix hi hn _ _) (by rw [fc_rd hi hn, hv]) rfl rfl hd w
theorem x_aald {a n i : Nat} {v : Value} {ty : FieldType} (hd : decode cc pc = .ok (.aaload, 1)) (ha : a < fc_nx M) (hs : fc_sh M a = .inr (ty, n)) (hty : ty.isReference = true) (hn : n < 2 ^ 31) (hi : i < n) (hv : fc_ct M a i = v)
    (kk : fc_X g l y cc nL ret d n0 s0 M (pc + 1) L (v :: st) Q) : fc_X g l y cc nL ret d n0 s0 M pc L (.int (nI i) :: .ref (fc_B g + a) :: st) Q := by
  refine fc_go (fun R p e s m args below meth c H ls locs cells slots Qs Mf hSt hR hS hL w => ?_) kk
  obtain ⟨h1, h2⟩ := fc_arr hR ha hs
  exact W.aald (v := v) (ty := ty) hSt.1 hSt.2.1 h2 ((hSt.2.2.2.2.2.2.2.2.1.2.1 _ h1).1 n _) hty (fun q => by cases q) (fc_ix hi hn _ _) (by rw [fc_rd hi hn, hv]) rfl rfl hd w
theorem x_alen {a n : Nat} {ty : FieldType} (hd : decode cc pc = .ok (.arraylength, 1)) (ha : a < fc_nx M) (hs : fc_sh M a = .inr (ty, n))
    (kk : fc_X g l y cc nL ret d n0 s0 M (pc + 1) L (.int (nI n) :: st) Q) : fc_X g l y cc nL ret d n0 s0 M pc L (.ref (fc_B g + a) :: st) Q := by
  refine fc_go (fun R p e s m args below meth c H ls locs cells slots Qs Mf hSt hR hS hL w => ?_) kk
  obtain ⟨h1, h2⟩ := fc_arr hR ha hs
  exact W.alen (n := nI n) hSt.1 hSt.2.1 h2 ((hSt.2.2.2.2.2.2.2.2.1.2.1 _ h1).1 n _) (by rw [arrV_size]; rfl) rfl rfl hd w
theorem x_iast {a n i : Nat} {x : Int32} (hd : decode cc pc = .ok (.iastore, 1)) (ha : a < fc_nx M) (hs : fc_sh M a = .inr (.int, n)) (hn : n < 2 ^ 31) (hi : i < n)
    (kk : fc_X g l y cc nL ret d n0 s0 (fc_put M a i (.int x)) (pc + 1) L st Q) : fc_X g l y cc nL ret d n0 s0 M pc L (.int x :: .int (nI i) :: .ref (fc_B g + a) :: st) Q := by
  obtain ⟨o, Mf, hQ, hb0, hE⟩ := kk
  refine ⟨o, Mf, hQ, hb0, fun R p e s m args below meth c H ls locs hSt h1 h2 hR hS hL => ?_⟩
  obtain ⟨g1, g2⟩ := fc_arr hR ha hs
  refine W.iast hSt.1 hSt.2.1 g2 ((hSt.2.2.2.2.2.2.2.2.1.2.1 _ g1).1 n _) (fun q => by cases q) (fc_ix hi hn _ _) rfl rfl hd fun H' e1 e2 e3 => ?_
  refine hE R p e s m args below meth c H' ls _ hSt h1 h2 (fc_R_put hR ha ?_ e2 e3) (hS.put e2 e3 (Nat.le_add_right _ _)) hL
  rw [hs]
  refine ⟨g1, ?_⟩
  rw [e1, nI_clamp (by omega), arrV_store]
theorem x_bast {a n i : Nat} {x : Int32} (hd : decode cc pc = .ok (.bastore, 1)) (ha : a < fc_nx M) (hs : fc_sh M a = .inr (.byte, n)) (hn : n < 2 ^ 31) (hi : i < n)
    (kk : fc_X g l y cc nL ret d n0 s0 (fc_put M a i (narrow .byte (.int x))) (pc + 1) L st Q) : fc_X g l y cc nL ret d n0 s0 M pc L (.int x :: .int (nI i) :: .ref (fc_B g + a) :: st) Q := by
  obtain ⟨o, Mf, hQ, hb0, hE⟩ := kk
  refine ⟨o, Mf, hQ, hb0, fun R p e s m args below meth c H ls locs hSt h1 h2 hR hS hL => ?_⟩
  obtain ⟨g1, g2⟩ := fc_arr hR ha hs
  refine W.bast hSt.1 hSt.2.1 g2 ((hSt.2.2.2.2.2.2.2.2.1.2.1 _ g1).1 n _) (fun q => by cases q) (fc_ix hi hn _ _) rfl rfl hd fun H' e1 e2 e3 => ?_
  refine hE R p e s m args below meth c H' ls _ hSt h1 h2 (fc_R_put hR ha ?_ e2 e3) (hS.put e2 e3 (Nat.le_add_right _ _)) hL
  rw [hs]
  refine ⟨g1, ?_⟩
  rw [e1, nI_clamp (by omega), arrV_store]
theorem x_zast {a n i : Nat} {x : Int32} (hd : decode cc pc = .ok (.bastore, 1)) (ha : a < fc_nx M) (hs : fc_sh M a = .inr (.boolean, n)) (hn : n < 2 ^ 31) (hi : i < n)
    (kk : fc_X g l y cc nL ret d n0 s0 (fc_put M a i (narrow .boolean (.int x))) (pc + 1) L st Q) : fc_X g l y cc nL ret d n0 s0 M pc L (.int x :: .int (nI i) :: .ref (fc_B g + a) :: st) Q := by
  obtain ⟨o, Mf, hQ, hb0, hE⟩ := kk
  refine ⟨o, Mf, hQ, hb0, fun R p e s m args below meth c H ls locs hSt h1 h2 hR hS hL => ?_⟩
  obtain ⟨g1, g2⟩ := fc_arr hR ha hs
  refine W.zast hSt.1 hSt.2.1 g2 ((hSt.2.2.2.2.2.2.2.2.1.2.1 _ g1).1 n _) (fun q => by cases q) (fc_ix hi hn _ _) rfl rfl hd fun H' e1 e2 e3 => ?_
  refine hE R p e s m args below meth c H' ls _ hSt h1 h2 (fc_R_put hR ha ?_ e2 e3) (hS.put e2 e3 (Nat.le_add_right _ _)) hL
  rw [hs]
  refine ⟨g1, ?_⟩
  rw [e1, nI_clamp (by omega), arrV_store]
end FCM
