set_option maxRecDepth 100000
/-! ===== a base that grows: what stood stands ===== -/
section T99ZC
variable {g : fc_G} {M M' : fc_M} {S S' : tT} {U : tU} {β π f nC : Nat} {w : Nat → Int32}
def xt (M M' : fc_M) : Prop := fc_nx M ≤ fc_nx M' ∧ ∀ a, a < fc_nx M → fc_sh M' a = fc_sh M a ∧ ∀ k, fc_ct M' a k = fc_ct M a k
theorem xt.rf : xt M M := ⟨Nat.le_refl _, fun _ _ => ⟨rfl, fun _ => rfl⟩⟩
theorem xt.tr {M2 : fc_M} (h : xt M M') (h2 : xt M' M2) : xt M M2 := ⟨Nat.le_trans h.1 h2.1, fun a ha => ⟨(h2.2 a (Nat.lt_of_lt_of_le ha h.1)).1.trans (h.2 a ha).1, fun k => ((h2.2 a (Nat.lt_of_lt_of_le ha h.1)).2 k).trans ((h.2 a ha).2 k)⟩⟩
theorem xt_new {sh : fc_Sh} {N : Nat} {fv : Nat → Value} : xt M (fc_new M sh N fv) := ⟨Nat.le_succ _, fun a ha => ⟨if_neg (Nat.ne_of_lt ha), fun k => if_neg (Nat.ne_of_lt ha)⟩⟩
theorem LT_xt (h : LT g M β) (e : xt M M') : LT g M' β := by
  obtain ⟨h1, h2, ⟨h3, h4, h5⟩, h6, h7⟩ := h
  exact ⟨Nat.le_trans h1 e.1, fun j hj => (e.2 _ (by omega)).1.trans (h2 j hj), ⟨((e.2 _ (by omega)).2 _).trans h3, ((e.2 _ (by omega)).2 _).trans h4, ((e.2 _ (by omega)).2 _).trans h5⟩, fun p hp => ((e.2 _ (by omega)).2 _).trans (h6 p hp), fun c hc => ((e.2 _ (by omega)).2 _).trans (h7 c hc)⟩
theorem lfS_lt {a : Nat} {s : fc_Sh} (h : lfS a = some s) : a < 245 := by
  rcases Nat.lt_or_ge a 245 with q | q
  · exact q
  · exfalso
    unfold lfS at h
    split at h <;> first | omega | cases h
theorem LF_xt (h : LF g M) (e : xt M M') : LF g M' := by
  obtain ⟨h1, h2, h3⟩ := h
  exact ⟨Nat.le_trans h1 e.1, fun k b hk => ((e.2 0 (by omega)).2 k).trans (h2 k b hk), fun a s hs => (e.2 a (by have := lfS_lt hs; omega)).1.trans (h3 a s hs)⟩
theorem PO_xt (h : PO g M S π f nC w) (e : xt M M') : PO g M' S π f nC w := by
  obtain ⟨⟨a1, a2, a3, a4, a5⟩, ⟨c1, c2, c3⟩, b⟩ := h
  exact ⟨⟨Nat.le_trans a1 e.1, (e.2 _ (by omega)).1.trans a2, fun j hj => (e.2 _ (by omega)).1.trans (a3 j hj), (e.2 _ (by omega)).1.trans a4, fun c hc => (e.2 _ (by omega)).1.trans (a5 c hc)⟩, ⟨fun j hj => ((e.2 _ (by omega)).2 _).trans (c1 j hj), ((e.2 _ (by omega)).2 _).trans c2, fun c hc => ((e.2 _ (by omega)).2 _).trans (c3 c hc)⟩, b⟩
theorem PC_xt (h : PC g M S π β f nC w) (e : xt M M') : PC g M' S π β f nC w := by
  have h0 := h.1.1
  exact ⟨LF_xt h.1 e, ((e.2 0 (by omega)).2 14).trans h.2.1, h.2.2.1, PO_xt h.2.2.2 e⟩
theorem tmI_xt (e : xt M M') : ∀ (k r : Nat) (ps : tLs), tmI g M S k r ps → tmI g M' S k r ps := by
  intro k
  induction k with
  | zero => intro r ps q; exact q
  | succ k ih =>
    intro r ps q
    obtain ⟨hr, q⟩ := q
    have er := e.2 r hr
    refine ⟨Nat.lt_of_lt_of_le hr e.1, ?_⟩
    rcases q with ⟨h, h2⟩ | ⟨h, h2⟩ | ⟨h, a, pa, ha, hA, rfl⟩ | ⟨h, a, pa, b, pb, s, ha, hb, hsg, hA, hB, hps⟩
    · exact Or.inl ⟨er.1.trans h, h2⟩
    · exact Or.inr (Or.inl ⟨er.1.trans h, h2⟩)
    · exact Or.inr (Or.inr (Or.inl ⟨er.1.trans h, a, pa, (er.2 _).trans ha, ih a pa hA, rfl⟩))
    · exact Or.inr (Or.inr (Or.inr ⟨er.1.trans h, a, pa, b, pb, s, (er.2 _).trans ha, (er.2 _).trans hb, hsg, ih a pa hA, ih b pb hB, hps⟩))
theorem TX_xt {τ r nl : Nat} (q : TX g M S τ w r nl) (e : xt M M') : TX g M' S τ w r nl := by
  obtain ⟨⟨t1, t2, t3, t4, t5⟩, ⟨r1, r2, r3⟩, m, hl⟩ := q
  refine ⟨⟨Nat.le_trans t1 e.1, (e.2 _ (by omega)).1.trans t2, (e.2 _ (by omega)).1.trans t3, (e.2 _ (by omega)).1.trans t4, (e.2 _ (by omega)).1.trans t5⟩, ⟨((e.2 _ (by omega)).2 _).trans r1, ((e.2 _ (by omega)).2 _).trans r2, ((e.2 _ (by omega)).2 _).trans r3⟩, m, fun i hi => ?_⟩
  obtain ⟨a1, a2, a3⟩ := hl i hi
  refine ⟨a1, ?_, fun z => ?_⟩
  · rcases a2 with ⟨b1, b2⟩ | ⟨b1, x, b2, b3, b4⟩
    · exact Or.inl ⟨b1, ((e.2 _ (by omega)).2 _).trans b2⟩
    · exact Or.inr ⟨b1, x, ((e.2 _ (by omega)).2 _).trans b2, tmI_xt e 402 x _ b3, b4⟩
  · obtain ⟨x, b1, b2⟩ := a3 z
    exact ⟨x, ((e.2 _ (by omega)).2 _).trans b1, tmI_xt e 402 x _ b2⟩
/-- terms and texts see ints of their own objects below the base's end alone -/
theorem tmI_lt (h : ∀ a k, a < fc_nx M → S' a k = S a k) : ∀ (k r : Nat) (ps : tLs), tmI g M S k r ps → tmI g M S' k r ps := by
  intro k
  induction k with
  | zero => intro r ps q; exact q
  | succ k ih =>
    intro r ps q
    obtain ⟨hr, q⟩ := q
    refine ⟨hr, ?_⟩
    rcases q with ⟨hs, rfl⟩ | ⟨hs, j, v, hj, hv, rfl⟩ | ⟨hs, a, pa, ha, hA, rfl⟩ | ⟨hs, a, pa, b, pb, s, ha, hb, hsg, hA, hB, hps⟩
    · exact Or.inl ⟨hs, by rw [h r 0 hr]⟩
    · exact Or.inr (Or.inl ⟨hs, j, v, hj, by rw [h r 0 hr]; exact hv, rfl⟩)
    · exact Or.inr (Or.inr (Or.inl ⟨hs, a, pa, ha, ih a pa hA, rfl⟩))
    · exact Or.inr (Or.inr (Or.inr ⟨hs, a, pa, b, pb, s, ha, hb, by rw [h r 0 hr]; exact hsg, ih a pa hA, ih b pb hB, hps⟩))
theorem TX_lt {τ r nl : Nat} (h : ∀ a k, a < fc_nx M → S' a k = S a k) (q : TX g M S τ w r nl) : TX g M S' τ w r nl := by
  obtain ⟨⟨t1, t2, t3, t4, t5⟩, hr, ⟨m1, m2⟩, hl⟩ := q
  refine ⟨⟨t1, t2, t3, t4, t5⟩, hr, ⟨by rw [h τ 3 (by omega)]; exact m1, m2⟩, fun i hi => ?_⟩
  obtain ⟨⟨a1, a2⟩, a3, a4⟩ := hl i hi
  refine ⟨⟨by rw [h (τ + 1) i (by omega)]; exact a1, a2⟩, ?_, fun z => ?_⟩
  · rcases a3 with a3 | ⟨b1, x, b2, b3, b4⟩
    · exact Or.inl a3
    · exact Or.inr ⟨b1, x, b2, tmI_lt h 402 x _ b3, b4⟩
  · obtain ⟨x, b1, b2⟩ := a4 z
    exact ⟨x, b1, tmI_lt h 402 x _ b2⟩
/-- a new object's ints and longs are 0 -/
def tz0 (S : tT) (a : Nat) : tT := fun b k => if b = a then 0 else S b k
def tz1 (U : tU) (a : Nat) : tU := fun b k => if b = a then 0 else U b k
theorem cl_new {sh : fc_Sh} {N : Nat} {fv : Nat → Value} (h1 : ∀ k, kdO sh k = 1 → fv k = .int 0) (h2 : ∀ k, kdO sh k = 2 → fv k = .long 0) : fc_new (cl M S U) sh N fv = cl (fc_new M sh N fv) (tz0 S (fc_nx M)) (tz1 U (fc_nx M)) := by
  refine Prod.ext rfl (Prod.ext rfl (funext fun b => funext fun j => ?_))
  show (if b = M.1.1 then fv j else if kdO (M.2.1 b) j = 1 then .int (S b j) else if kdO (M.2.1 b) j = 2 then .long (U b j) else M.2.2 b j) = (if kdO (if b = M.1.1 then sh else M.2.1 b) j = 1 then .int (if b = M.1.1 then 0 else S b j) else if kdO (if b = M.1.1 then sh else M.2.1 b) j = 2 then .long (if b = M.1.1 then 0 else U b j) else (if b = M.1.1 then fv j else M.2.2 b j))
  by_cases e : b = M.1.1
  · simp only [if_pos e]
    by_cases k1 : kdO sh j = 1
    · rw [if_pos k1, h1 j k1]
    · rw [if_neg k1]
      by_cases k2 : kdO sh j = 2
      · rw [if_pos k2, h2 j k2]
      · rw [if_neg k2]
  · simp only [if_neg e]
theorem tz0_lt {a k : Nat} (h : a < fc_nx M) : tz0 S (fc_nx M) a k = S a k := if_neg (Nat.ne_of_lt h)
theorem clr_tz (h : LT g M β) : clr (tz0 S (fc_nx M)) β w = tz0 (clr S β w) (fc_nx M) := by
  have h1 := h.1
  funext a k
  by_cases e : a = fc_nx M
  · rw [clr_o (by omega)]
    show (if _ then _ else _) = (if _ then _ else _)
    rw [if_pos e, if_pos e]
  · show _ = (if _ then _ else _)
    rw [if_neg e]
    show (if _ then _ else if _ then _ else if _ then _ else tz0 S (fc_nx M) a k) = (if _ then _ else if _ then _ else if _ then _ else S a k)
    rw [show tz0 S (fc_nx M) a k = S a k from if_neg e]
end T99ZC
