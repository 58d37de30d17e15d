set_option maxRecDepth 100000
/-! ===== the class's reader: how memory grows, what a token is ===== -/
section T99ZZF
variable {g : fc_G} {l : Launch} {M M1 M2 : fc_M} {S S1 S2 : tT} {U : tU} {b : Nat → Int32} {t : Nat} {E : tEn}
def gw (M : fc_M) (S : tT) (M' : fc_M) (S' : tT) : Prop := fc_nx M ≤ fc_nx M' ∧ fc_sl M ≤ fc_sl M' ∧ (∀ a, a < fc_nx M → fc_sh M' a = fc_sh M a ∧ ∀ k, ¬ (a = 0 ∧ k = 6) → fc_ct M' a k = fc_ct M a k) ∧ ∀ a k, a < fc_nx M → ¬ (a = 0 ∧ 7 ≤ k ∧ k ≤ 10) → S' a k = S a k
theorem gw.rf : gw M S M S := ⟨Nat.le_refl _, Nat.le_refl _, fun _ _ => ⟨rfl, fun _ _ => rfl⟩, fun _ _ _ _ => rfl⟩
theorem gw.tr (h : gw M S M1 S1) (h2 : gw M1 S1 M2 S2) : gw M S M2 S2 := ⟨Nat.le_trans h.1 h2.1, Nat.le_trans h.2.1 h2.2.1, fun a ha => ⟨(h2.2.2.1 a (Nat.lt_of_lt_of_le ha h.1)).1.trans (h.2.2.1 a ha).1, fun k hk => ((h2.2.2.1 a (Nat.lt_of_lt_of_le ha h.1)).2 k hk).trans ((h.2.2.1 a ha).2 k hk)⟩, fun a k ha hk => (h2.2.2.2 a k (Nat.lt_of_lt_of_le ha h.1) hk).trans (h.2.2.2 a k ha hk)⟩
theorem gw.new {sh : fc_Sh} {N : Nat} {fv : Nat → Value} : gw M S (fc_new M sh N fv) (tz0 S (fc_nx M)) := ⟨Nat.le_succ _, Nat.le_add_right _ _, fun a ha => ⟨if_neg (Nat.ne_of_lt ha), fun k _ => if_neg (Nat.ne_of_lt ha)⟩, fun a k ha _ => if_neg (Nat.ne_of_lt ha)⟩
theorem gw.put {x k : Nat} {v : Value} (h : gw M S M1 S1) (hx : fc_nx M ≤ x) : gw M S (fc_put M1 x k v) S1 := ⟨h.1, h.2.1, fun a ha => ⟨(h.2.2.1 a ha).1, fun j hj => (ct_pn (fun z => by omega)).trans ((h.2.2.1 a ha).2 j hj)⟩, h.2.2.2⟩
theorem gw.tux {x k : Nat} {v : Int32} (h : gw M S M1 S1) (hx : fc_nx M ≤ x) : gw M S M1 (tu S1 x k v) := ⟨h.1, h.2.1, h.2.2.1, fun a j ha hj => (if_neg (fun z => by omega)).trans (h.2.2.2 a j ha hj)⟩
theorem gw.fltx {x : Nat} (h : gw M S M1 S1) (hx : fc_nx M ≤ x) : gw M S (flt M1 x) S1 := ⟨h.1, h.2.1, fun a ha => ⟨(h.2.2.1 a ha).1, fun j hj => (show fc_ct (flt M1 x) a j = fc_ct M1 a j from if_neg (fun z => by omega)).trans ((h.2.2.1 a ha).2 j hj)⟩, h.2.2.2⟩
theorem gw.opn {v : Int32} : gw M S M (tu S 0 10 v) := ⟨Nat.le_refl _, Nat.le_refl _, fun _ _ => ⟨rfl, fun _ _ => rfl⟩, fun a k _ hk => if_neg (fun z => hk (by omega))⟩
theorem lfR_6 {k c : Nat} (h : lfR k = some c) : k ≠ 6 := by
  intro e
  subst e
  cases h
theorem LF_gw (h : LF g M) (e : gw M S M1 S1) : LF g M1 := ⟨Nat.le_trans h.1 e.1, fun k c hk => ((e.2.2.1 0 (by have := h.1; omega)).2 k (fun z => lfR_6 hk z.2)).trans (h.2.1 k c hk), fun a s hs => (e.2.2.1 a (by have := lfS_lt hs; have := h.1; omega)).1.trans (h.2.2 a s hs)⟩
theorem WD_gw (h : LF g M) (hW : WD g M) (e : gw M S M1 S1) : WD g M1 := by
  have h0 := h.1
  exact ⟨fun k hk => ((e.2.2.1 2 (by omega)).2 k (by omega)).trans (hW.1 k hk), fun k hk => ((e.2.2.1 3 (by omega)).2 k (by omega)).trans (hW.2.1 k hk), fun k hk => ((e.2.2.1 4 (by omega)).2 k (by omega)).trans (hW.2.2.1 k hk), fun k hk => ((e.2.2.1 5 (by omega)).2 k (by omega)).trans (hW.2.2.2 k hk)⟩
theorem tmI_mono : ∀ (k k' r : Nat) (ps : tLs), k ≤ k' → tmI g M S k r ps → tmI g M S k' r ps := by
  intro k
  induction k with
  | zero => intro k' r ps _ q; exact q.elim
  | succ k ih =>
    intro k' r ps hk q
    obtain ⟨k', rfl⟩ : ∃ j, k' = j + 1 := ⟨k' - 1, by omega⟩
    obtain ⟨hr, q⟩ := q
    refine ⟨hr, ?_⟩
    rcases q with h | h | ⟨h, a, pa, ha, hA, e⟩ | ⟨h, a, pa, c, pb, s, ha, hb, hsg, hA, hB, hps⟩
    · exact Or.inl h
    · exact Or.inr (Or.inl h)
    · exact Or.inr (Or.inr (Or.inl ⟨h, a, pa, ha, ih k' a pa (by omega) hA, e⟩))
    · exact Or.inr (Or.inr (Or.inr ⟨h, a, pa, c, pb, s, ha, hb, hsg, ih k' a pa (by omega) hA, ih k' c pb (by omega) hB, hps⟩))
theorem tmI_gw (h0 : fc_sh M 0 = .inl 0) (e : gw M S M1 S1) : ∀ (k r : Nat) (ps : tLs), tmI g M S k r ps → tmI g M1 S1 k r ps := by
  intro k
  induction k with
  | zero => intro r ps q; exact q
  | succ k ih =>
    intro r ps q
    obtain ⟨hr, q⟩ := q
    have er := e.2.2.1 r hr
    have hr0 : r ≠ 0 := by
      intro z
      subst z
      rw [h0] at q
      rcases q with ⟨h, _⟩ | ⟨h, _⟩ | ⟨h, _⟩ | ⟨h, _⟩ <;> cases h
    have eS : ∀ j, S1 r j = S r j := fun j => e.2.2.2 r j hr (fun z => hr0 z.1)
    have eC : ∀ j, fc_ct M1 r j = fc_ct M r j := fun j => er.2 j (fun z => hr0 z.1)
    refine ⟨Nat.lt_of_lt_of_le hr e.1, ?_⟩
    rcases q with ⟨h, h2⟩ | ⟨h, j, v, hj, hv, h2⟩ | ⟨h, a, pa, ha, hA, rfl⟩ | ⟨h, a, pa, c, pb, s, ha, hb, hsg, hA, hB, hps⟩
    · exact Or.inl ⟨er.1.trans h, by rw [eS]; exact h2⟩
    · exact Or.inr (Or.inl ⟨er.1.trans h, j, v, hj, by rw [eS]; exact hv, h2⟩)
    · exact Or.inr (Or.inr (Or.inl ⟨er.1.trans h, a, pa, (eC 0).trans ha, ih a pa hA, rfl⟩))
    · exact Or.inr (Or.inr (Or.inr ⟨er.1.trans h, a, pa, c, pb, s, (eC 1).trans ha, (eC 2).trans hb, by rw [eS]; exact hsg, ih a pa hA, ih c pb hB, hps⟩))
/-- a Two that is not yet filled is in no term -/
theorem tmI_two {x : Nat} {va vb : Value} {c : Int32} (hx : fc_sh M x = .inl 10) (hn : fc_ct M x 1 = .null) : ∀ (k r : Nat) (ps : tLs), tmI g M S k r ps → tmI g (fc_put (fc_put M x 1 va) x 2 vb) (tu S x 0 c) k r ps := by
  intro k
  induction k with
  | zero => intro r ps q; exact q
  | succ k ih =>
    intro r ps q
    obtain ⟨hr, q⟩ := q
    have hrx : r ≠ x := by
      intro z
      subst z
      rw [hx] at q
      rcases q with ⟨h, _⟩ | ⟨h, _⟩ | ⟨h, _⟩ | ⟨h, a, pa, c, pb, s, ha, _⟩
      · cases h
      · cases h
      · cases h
      · rw [hn] at ha; cases ha
    have eS : ∀ j, tu S x 0 c r j = S r j := fun j => if_neg (fun z => hrx z.1)
    have eC : ∀ j, fc_ct (fc_put (fc_put M x 1 va) x 2 vb) r j = fc_ct M r j := fun j => (ct_pn (fun z => hrx z.1)).trans (ct_pn (fun z => hrx z.1))
    refine ⟨hr, ?_⟩
    rcases q with ⟨h, h2⟩ | ⟨h, j, v, hj, hv, h2⟩ | ⟨h, a, pa, ha, hA, rfl⟩ | ⟨h, a, pa, c2, pb, s, ha, hb, hsg, hA, hB, hps⟩
    · exact Or.inl ⟨h, by rw [eS]; exact h2⟩
    · exact Or.inr (Or.inl ⟨h, j, v, hj, by rw [eS]; exact hv, h2⟩)
    · exact Or.inr (Or.inr (Or.inl ⟨h, a, pa, (eC 0).trans ha, ih a pa hA, rfl⟩))
    · exact Or.inr (Or.inr (Or.inr ⟨h, a, pa, c2, pb, s, (eC 1).trans ha, (eC 2).trans hb, by rw [eS]; exact hsg, ih a pa hA, ih c2 pb hB, hps⟩))
theorem tmI_pos {k r : Nat} {ps : tLs} (h : tmI g M S k r ps) : 1 ≤ ps.length := by
  cases k with
  | zero => exact h.elim
  | succ k =>
    obtain ⟨-, q⟩ := h
    rcases q with ⟨-, rfl⟩ | ⟨-, j, v, -, -, rfl⟩ | ⟨-, a, pa, -, -, rfl⟩ | ⟨-, a, pa, c, pb, s, -, -, -, -, -, ⟨-, v, -, -, rfl⟩ | ⟨-, rfl⟩⟩ <;> simp only [List.length_append, List.length_cons, List.length_nil] <;> omega
/-- a new object has no longs -/
theorem cl_newU {sh : fc_Sh} {N : Nat} {fv : Nat → Value} (h1 : ∀ k, kdO sh k = 1 → fv k = .int 0) (h2 : ∀ k, kdO sh k ≠ 2) : fc_new (cl M S U) sh N fv = cl (fc_new M sh N fv) (tz0 S (fc_nx M)) U := by
  rw [cl_new h1 (fun k hk => absurd hk (h2 k))]
  refine Prod.ext rfl (Prod.ext rfl (funext fun c => funext fun j => ?_))
  show (if kdO (if c = M.1.1 then sh else M.2.1 c) j = 1 then Value.int (tz0 S (fc_nx M) c j) else if kdO (if c = M.1.1 then sh else M.2.1 c) j = 2 then .long (if c = M.1.1 then 0 else U c j) else _) = (if kdO (if c = M.1.1 then sh else M.2.1 c) j = 1 then Value.int (tz0 S (fc_nx M) c j) else if kdO (if c = M.1.1 then sh else M.2.1 c) j = 2 then .long (U c j) else _)
  by_cases e : c = M.1.1
  · simp only [if_pos e]
    rw [if_neg (h2 j), if_neg (h2 j)]
  · simp only [if_neg e]
/-- how far the text and the memory have come: p0, M0 at the start; j cells to spare -/
def jw (M0 : fc_M) (S0 : tT) (p0 j : Nat) (M : fc_M) (S : tT) (p : Nat) : Prop := gw M0 S0 M S ∧ p0 ≤ p ∧ fc_nx M + p0 + j ≤ fc_nx M0 + p ∧ fc_sl M + 3 * p0 + 3 * j ≤ fc_sl M0 + 3 * p
def je (M0 : fc_M) (S0 : tT) (p0 : Nat) (M : fc_M) (S : tT) (p : Nat) : Prop := gw M0 S0 M S ∧ (p0 ≤ p ∧ p ≤ 400) ∧ fc_nx M + p0 ≤ fc_nx M0 + p + 1 ∧ fc_sl M + 3 * p0 ≤ fc_sl M0 + 3 * p + 8
theorem jw.rf {p : Nat} : jw M S p 0 M S p := ⟨gw.rf, Nat.le_refl _, Nat.le_refl _, Nat.le_refl _⟩
theorem jw.tr {p0 p1 p2 j k : Nat} (h : jw M S p0 j M1 S1 p1) (h2 : jw M1 S1 p1 k M2 S2 p2) : jw M S p0 (j + k) M2 S2 p2 := by
  obtain ⟨a1, a2, a3, a4⟩ := h
  obtain ⟨b1, b2, b3, b4⟩ := h2
  exact ⟨a1.tr b1, by omega, by omega, by omega⟩
theorem jw.tre {p0 p1 p2 j : Nat} (h : jw M S p0 j M1 S1 p1) (h2 : je M1 S1 p1 M2 S2 p2) : je M S p0 M2 S2 p2 := by
  obtain ⟨a1, a2, a3, a4⟩ := h
  obtain ⟨b1, b2, b3, b4⟩ := h2
  exact ⟨a1.tr b1, by omega, by omega, by omega⟩
theorem jw.less {p0 p1 j k : Nat} (h : jw M S p0 j M1 S1 p1) (hk : k ≤ j) : jw M S p0 k M1 S1 p1 := by
  obtain ⟨a1, a2, a3, a4⟩ := h
  exact ⟨a1, a2, by omega, by omega⟩
theorem jw.new {p0 p1 j : Nat} {sh : fc_Sh} {N : Nat} {fv : Nat → Value} (h : jw M S p0 (j + 1) M1 S1 p1) (hN : N ≤ 3) : jw M S p0 j (fc_new M1 sh N fv) (tz0 S1 (fc_nx M1)) p1 := by
  obtain ⟨a1, a2, a3, a4⟩ := h
  refine ⟨a1.tr gw.new, a2, ?_, ?_⟩
  · show fc_nx M1 + 1 + p0 + j ≤ _; omega
  · show fc_sl M1 + N + 3 * p0 + 3 * j ≤ _; omega
theorem jw.put {p0 p1 j x k : Nat} {v : Value} (h : jw M S p0 j M1 S1 p1) (hx : fc_nx M ≤ x) : jw M S p0 j (fc_put M1 x k v) S1 p1 := ⟨h.1.put hx, h.2⟩
theorem jw.tux {p0 p1 j x k : Nat} {v : Int32} (h : jw M S p0 j M1 S1 p1) (hx : fc_nx M ≤ x) : jw M S p0 j M1 (tu S1 x k v) p1 := ⟨h.1.tux hx, h.2⟩
theorem jw.opn {p0 p1 j : Nat} {v : Int32} (h : jw M S p0 j M1 S1 p1) : jw M S p0 j M1 (tu S1 0 10 v) p1 := ⟨h.1.tr gw.opn, h.2⟩
/-- a token as it stands in the class -/
def ctk (g : fc_G) (M : fc_M) (S : tT) (E : tEn) (q : tTk) : Prop := tpR S E.2.1 E.2.2 ∧ tkv E.2.2 q ∧ ∃ κ, tkA g M S E.2.2 κ q.1 (q.2.1 - q.1) ∧ tokR κ (S 0 9) E.1 E.2.1 q
/-! words and codes -/
theorem isWd_inj {s n : Nat} {A B : List Int32} (h : isWd b s n A) (h2 : isWd b s n B) : A = B := by
  have hl : A.length = B.length := h.1.symm.trans h2.1
  apply List.ext_getElem hl
  intro i h3 h4
  have e1 := h.2 i h3
  have e2 := h2.2 i h4
  rw [List.getD_eq_getElem?_getD, List.getElem?_eq_getElem h3] at e1
  rw [List.getD_eq_getElem?_getD, List.getElem?_eq_getElem h4] at e2
  exact e1.symm.trans e2
def fmT (b : Nat → Int32) (s n : Nat) : List (List Int32 × Nat) → Int32
  | [] => nI 1
  | x :: r => if isWd b s n x.1 then nI x.2 else fmT b s n r
theorem fmT_ex {s n : Nat} : ∀ (tb : List (List Int32 × Nat)), fmT b s n tb = nI 1 ∨ ∃ x ∈ tb, fmT b s n tb = nI x.2 ∧ isWd b s n x.1
  | [] => Or.inl rfl
  | x :: r => by
    by_cases h : isWd b s n x.1
    · exact Or.inr ⟨x, List.mem_cons_self, if_pos h, h⟩
    · rw [fmT, if_neg h]
      rcases fmT_ex r with q | ⟨y, h1, h2⟩
      · exact Or.inl q
      · exact Or.inr ⟨y, List.mem_cons_of_mem _ h1, h2⟩
theorem fmT_of {s n : Nat} {w : List Int32} {c : Nat} : ∀ (tb : List (List Int32 × Nat)), (w, c) ∈ tb → (∀ x ∈ tb, x.1 = w → x.2 = c) → isWd b s n w → fmT b s n tb = nI c
  | [], h, _, _ => by cases h
  | x :: r, h, hu, hw => by
    by_cases hx : isWd b s n x.1
    · rw [fmT, if_pos hx, hu x List.mem_cons_self (isWd_inj hx hw)]
    · rw [fmT, if_neg hx]
      rcases List.mem_cons.mp h with e | e
      · exact absurd (by rw [← e]; exact hw) hx
      · exact fmT_of r e (fun y hy => hu y (List.mem_cons_of_mem _ hy)) hw
def rTb : List (List Int32 × Nat) := [([119, 104, 101, 110], 3), ([111, 114], 4), ([97, 110, 100], 5), ([110, 111, 116], 6), ([99, 111, 115, 116], 20), ([110, 101, 118, 101, 114], 21), ([102, 97, 114], 41), ([115, 97, 109, 101], 42), ([97, 103, 97, 105, 110, 115, 116], 43), ([108, 111, 97, 100], 44), ([103, 105, 118, 101, 110], 45), ([105, 100, 108, 101], 46), ([117, 112], 47), ([102, 108, 111, 111, 114], 48), ([119, 97, 105, 116, 115], 49), ([99, 97, 114], 50)]
def tTb : List (List Int32 × Nat) := [([102, 108, 111, 111, 114, 115], 30), ([99, 97, 114], 31), ([115, 107, 105, 112], 32)]
theorem rwW_fm {s n : Nat} : rwW b s n = fmT b s n rTb := rfl
theorem twW_fm {s n : Nat} : twW b s n = fmT b s n tTb := rfl
theorem tb_u {tb : List (List Int32 × Nat)} (h : tb = rTb ∨ tb = tTb) : (∀ x ∈ tb, 3 ≤ x.2 ∧ x.2 ≤ 50) ∧ (∀ x ∈ tb, ∀ y ∈ tb, (x.1 = y.1 ↔ x.2 = y.2)) := by
  rcases h with rfl | rfl
  · exact ⟨by decide +kernel, by decide +kernel⟩
  · exact ⟨by decide +kernel, by decide +kernel⟩
theorem fm_iff {tb : List (List Int32 × Nat)} (ht : tb = rTb ∨ tb = tTb) {s n c : Nat} {w : List Int32} (h : (w, c) ∈ tb) : fmT b s n tb = nI c ↔ isWd b s n w := by
  obtain ⟨u1, u2⟩ := tb_u ht
  constructor
  · intro e
    have hc := u1 _ h
    rcases fmT_ex (b := b) (s := s) (n := n) tb with q | ⟨x, h1, h2, h3⟩
    · rw [q] at e
      exact absurd ((nI_eq (by decide) (by omega)).mp e) (by omega)
    · rw [h2] at e
      have hx := u1 _ h1
      have e2 := (nI_eq (by omega) (by omega)).mp e
      have e3 : x.1 = w := (u2 x h1 (w, c) h).mpr e2
      rw [← e3]; exact h3
  · intro hw
    exact fmT_of tb h (fun x hx e => (u2 x hx (w, c) h).mp e) hw
theorem wdW_rng {wh : Int32} {s n : Nat} : ∃ j, wdW wh b s n = nI j ∧ (j = 1 ∨ (3 ≤ j ∧ j ≤ 50)) := by
  have k : ∀ tb : List (List Int32 × Nat), (tb = rTb ∨ tb = tTb) → ∃ j, fmT b s n tb = nI j ∧ (j = 1 ∨ (3 ≤ j ∧ j ≤ 50)) := fun tb ht => by
    rcases fmT_ex (b := b) (s := s) (n := n) tb with q | ⟨x, h1, h2, h3⟩
    · exact ⟨1, q, Or.inl rfl⟩
    · exact ⟨x.2, h2, Or.inr ((tb_u ht).1 x h1)⟩
  unfold wdW
  split
  · exact k tTb (Or.inr rfl)
  · exact k rTb (Or.inl rfl)
theorem isSg_rng {v : Int32} (h : isSg v) : ∃ c, v = nI c ∧ 40 ≤ c ∧ c ≤ 62 := by
  rcases h with h | h | h | h | h | h | h | h | h | h <;> subst h
  · exact ⟨59, rfl, by decide, by decide⟩
  · exact ⟨43, rfl, by decide, by decide⟩
  · exact ⟨45, rfl, by decide, by decide⟩
  · exact ⟨42, rfl, by decide, by decide⟩
  · exact ⟨47, rfl, by decide, by decide⟩
  · exact ⟨40, rfl, by decide, by decide⟩
  · exact ⟨41, rfl, by decide, by decide⟩
  · exact ⟨60, rfl, by decide, by decide⟩
  · exact ⟨61, rfl, by decide, by decide⟩
  · exact ⟨62, rfl, by decide, by decide⟩
section TOKR
variable {κ : Nat} {v wh : Int32} {q : tTk}
/-- the kind tells the code's range -/
theorem tokR_c (h : tokR κ v wh b q) : (κ = 0 ∧ q.2.2.1 = nI 0) ∨ (κ = 1 ∧ q.2.2.1 = nI 1) ∨ (κ = 2 ∧ q.2.2.1 = wdW wh b q.1 (q.2.1 - q.1) ∧ ∃ j, q.2.2.1 = nI j ∧ (j = 1 ∨ (3 ≤ j ∧ j ≤ 50))) ∨ (κ = 3 ∧ q.2.2.1 = nI 2 ∧ v = q.2.2.2) ∨ (κ = 4 ∧ ∃ c, v = nI c ∧ q.2.2.1 = nI (100 + c) ∧ 40 ≤ c ∧ c ≤ 62) := by
  rcases h with h | h | h | h | h
  · exact Or.inl h
  · exact Or.inr (Or.inl h)
  · obtain ⟨j, h1, h2⟩ := wdW_rng (wh := wh) (b := b) (s := q.1) (n := q.2.1 - q.1)
    exact Or.inr (Or.inr (Or.inl ⟨h.1, h.2, j, h.2.trans h1, h2⟩))
  · exact Or.inr (Or.inr (Or.inr (Or.inl h)))
  · obtain ⟨c, h1, h2⟩ := isSg_rng h.2.1
    exact Or.inr (Or.inr (Or.inr (Or.inr ⟨h.1, c, h1, by rw [h.2.2, h1, nI_add], h2⟩)))
theorem tokR_num (h : tokR κ v wh b q) : κ = 3 ↔ q.2.2.1 = nI 2 := by
  rcases tokR_c h with ⟨a, e⟩ | ⟨a, e⟩ | ⟨a, -, j, e, hj⟩ | ⟨a, e, -⟩ | ⟨a, c, -, e, hc⟩ <;> rw [a, e]
  · exact ⟨fun z => absurd z (by decide), fun z => absurd z (by decide)⟩
  · exact ⟨fun z => absurd z (by decide), fun z => absurd z (by decide)⟩
  · exact ⟨fun z => absurd z (by decide), fun z => absurd ((nI_eq (by omega) (by decide)).mp z) (by omega)⟩
  · exact ⟨fun _ => rfl, fun _ => rfl⟩
  · exact ⟨fun z => absurd z (by decide), fun z => absurd ((nI_eq (by omega) (by decide)).mp z) (by omega)⟩
theorem tokR_end (h : tokR κ v wh b q) : κ = 0 ↔ q.2.2.1 = nI 0 := by
  rcases tokR_c h with ⟨a, e⟩ | ⟨a, e⟩ | ⟨a, -, j, e, hj⟩ | ⟨a, e, -⟩ | ⟨a, c, -, e, hc⟩ <;> rw [a, e]
  · exact ⟨fun _ => rfl, fun _ => rfl⟩
  · exact ⟨fun z => absurd z (by decide), fun z => absurd z (by decide)⟩
  · exact ⟨fun z => absurd z (by decide), fun z => absurd ((nI_eq (by omega) (by decide)).mp z) (by omega)⟩
  · exact ⟨fun z => absurd z (by decide), fun z => absurd z (by decide)⟩
  · exact ⟨fun z => absurd z (by decide), fun z => absurd ((nI_eq (by omega) (by decide)).mp z) (by omega)⟩
theorem tokR_val (h : tokR κ v wh b q) (hc : q.2.2.1 = nI 2) : v = q.2.2.2 := by
  have hk := (tokR_num h).mpr hc
  rcases h with h | h | h | h | h
  · exact absurd (hk.symm.trans h.1) (by decide)
  · exact absurd (hk.symm.trans h.1) (by decide)
  · exact absurd (hk.symm.trans h.1) (by decide)
  · exact h.2.2
  · exact absurd (hk.symm.trans h.1) (by decide)
theorem tokR_sg (h : tokR κ v wh b q) {c : Nat} (hc : 40 ≤ c ∧ c ≤ 62) : (κ = 4 ∧ v = nI c) ↔ q.2.2.1 = nI (100 + c) := by
  rcases tokR_c h with ⟨a, e⟩ | ⟨a, e⟩ | ⟨a, -, j, e, hj⟩ | ⟨a, e, -⟩ | ⟨a, c2, e2, e, hc2⟩ <;> rw [a, e]
  · exact ⟨fun z => absurd z.1 (by decide), fun z => absurd ((nI_eq (by omega) (by omega)).mp z) (by omega)⟩
  · exact ⟨fun z => absurd z.1 (by decide), fun z => absurd ((nI_eq (by omega) (by omega)).mp z) (by omega)⟩
  · exact ⟨fun z => absurd z.1 (by decide), fun z => absurd ((nI_eq (by omega) (by omega)).mp z) (by omega)⟩
  · exact ⟨fun z => absurd z.1 (by decide), fun z => absurd ((nI_eq (by omega) (by omega)).mp z) (by omega)⟩
  · rw [e2]
    constructor
    · intro z
      have := (nI_eq (by omega) (by omega)).mp z.2
      rw [this]
    · intro z
      have := (nI_eq (by omega) (by omega)).mp z
      exact ⟨rfl, by rw [show c2 = c by omega]⟩
theorem tokR_wd (h : tokR κ v wh b q) {tb : List (List Int32 × Nat)} (ht : (tb = rTb ∧ ¬ wh = nI 3) ∨ (tb = tTb ∧ wh = nI 3)) {w : List Int32} {c : Nat} (hw : (w, c) ∈ tb) : (κ = 2 ∧ isWd b q.1 (q.2.1 - q.1) w) ↔ q.2.2.1 = nI c := by
  have ht2 : tb = rTb ∨ tb = tTb := ht.elim (fun z => Or.inl z.1) (fun z => Or.inr z.1)
  have hc := (tb_u ht2).1 _ hw
  rcases tokR_c h with ⟨a, e⟩ | ⟨a, e⟩ | ⟨a, e, -⟩ | ⟨a, e, -⟩ | ⟨a, c2, -, e, hc2⟩
  · rw [a, e]; exact ⟨fun z => absurd z.1 (by decide), fun z => absurd ((nI_eq (by omega) (by omega)).mp z) (by omega)⟩
  · rw [a, e]; exact ⟨fun z => absurd z.1 (by decide), fun z => absurd ((nI_eq (by omega) (by omega)).mp z) (by omega)⟩
  · have e9 : wdW wh b q.1 (q.2.1 - q.1) = fmT b q.1 (q.2.1 - q.1) tb := by
      unfold wdW
      rcases ht with ⟨z1, z2⟩ | ⟨z1, z2⟩
      · rw [if_neg z2, z1]; rfl
      · rw [if_pos z2, z1]; rfl
    rw [a, e, e9, fm_iff ht2 hw]
    exact ⟨fun z => z.2, fun z => ⟨rfl, z⟩⟩
  · rw [a, e]; exact ⟨fun z => absurd z.1 (by decide), fun z => absurd ((nI_eq (by omega) (by omega)).mp z) (by omega)⟩
  · rw [a, e]; exact ⟨fun z => absurd z.1 (by decide), fun z => absurd ((nI_eq (by omega) (by omega)).mp z) (by omega)⟩
end TOKR
theorem woF_at {s n N k : Nat} {ix : Nat → Nat} (hk : k < N) (hw : isWd b s n (wsB (ix k))) (hu : ∀ j, j < N → wsB (ix j) = wsB (ix k) → j = k) : ∀ (m i : Nat), i ≤ k → k < i + m → woF b s n ix N m i = nI k
  | 0, i, h1, h2 => by omega
  | m + 1, i, h1, h2 => by
    rw [woF, if_pos (by omega)]
    by_cases c : isWd b s n (wsB (ix i))
    · rw [if_pos c, hu i (by omega) (isWd_inj c hw)]
    · rw [if_neg c]
      have : i ≠ k := by
        intro e
        subst e
        exact c hw
      exact woF_at hk hw hu m (i + 1) (by omega) (by omega)
theorem woF_none {s n N : Nat} {ix : Nat → Nat} (h : ∀ j, j < N → ¬ isWd b s n (wsB (ix j))) : ∀ (m i : Nat), woF b s n ix N m i = -1
  | 0, _ => rfl
  | m + 1, i => by
    by_cases c : i < N
    · rw [woF, if_pos c, if_neg (h i c)]
      exact woF_none h m (i + 1)
    · rw [woF, if_neg c]
/-- a row of words whose codes stand one behind the other -/
theorem woF_code {κ : Nat} {v wh : Int32} {q : tTk} (h : tokR κ v wh b q) {tb : List (List Int32 × Nat)} (ht : (tb = rTb ∧ ¬ wh = nI 3) ∨ (tb = tTb ∧ wh = nI 3)) {N c0 : Nat} {ix : Nat → Nat} (hN : N < 100) (hw : ∀ k, k < N → (wsB (ix k), c0 + k) ∈ tb) (hc0 : c0 < 100) : (∃ k, k < N ∧ q.2.2.1 = nI (c0 + k) ∧ (if κ = 2 then woF b q.1 (q.2.1 - q.1) ix N (N + 1) 0 else -1) = nI k) ∨ ((∀ k, k < N → ¬ q.2.2.1 = nI (c0 + k)) ∧ (if κ = 2 then woF b q.1 (q.2.1 - q.1) ix N (N + 1) 0 else -1) = -1) := by
  have ht2 : tb = rTb ∨ tb = tTb := ht.elim (fun z => Or.inl z.1) (fun z => Or.inr z.1)
  rcases Classical.em (∃ k, k < N ∧ q.2.2.1 = nI (c0 + k)) with ⟨k, hk, e⟩ | z
  · have hd := (tokR_wd h ht (hw k hk)).mpr e
    refine Or.inl ⟨k, hk, e, ?_⟩
    rw [if_pos hd.1]
    refine woF_at hk hd.2 (fun j hj ej => ?_) (N + 1) 0 (by omega) (by omega)
    have := ((tb_u ht2).2 _ (hw j hj) _ (hw k hk)).mp ej
    simp only at this
    omega
  · refine Or.inr ⟨fun k hk e => z ⟨k, hk, e⟩, ?_⟩
    by_cases c : κ = 2
    · rw [if_pos c]
      exact woF_none (fun j hj w => z ⟨j, hj, (tokR_wd h ht (hw j hj)).mp ⟨c, w⟩⟩) _ _
    · rw [if_neg c]
theorem as_tb : ∀ k, k < 10 → (wsB (asI k), 41 + k) ∈ rTb := by decide +kernel
theorem ru_tb : ∀ k, k < 2 → (wsB k, 20 + k) ∈ rTb := by decide +kernel
theorem to_tb : ∀ k, k < 3 → (wsB (2 + k), 30 + k) ∈ tTb := by decide +kernel
theorem ot_tb : ∀ k, k < 4 → (wsB (14 + k), 3 + k) ∈ rTb := by decide +kernel
end T99ZZF
