set_option maxRecDepth 100000
/-! the reader as a plain function of the tape, and what the reference's memory is while it reads -/
abbrev tLs : Type := List (Int32 × Int32)
abbrev tRs : Type := Except (Int32 × Nat) (tTk × tLs)
abbrev tEn : Type := Int32 × (Nat → Int32) × Nat
def nxt (E : tEn) (q : tTk) : tTk := nxK E.1 E.2.1 E.2.2 q.2.1 q.2.2.2
def bindR (R : tRs) (f : tTk × tLs → tRs) : tRs := match R with
  | .error q => .error q
  | .ok q => f q
theorem bindR_e {R : tRs} {f : tTk × tLs → tRs} {q : Int32 × Nat} (h : R = .error q) : bindR R f = .error q := by rw [h]; rfl
theorem bindR_k {R : tRs} {f : tTk × tLs → tRs} {q : tTk × tLs} (h : R = .ok q) : bindR R f = f q := by rw [h]; rfl
abbrev isNm (c : Int32) : Prop := nI 41 ≤ c ∧ c ≤ nI 50
def pUn (E : tEn) (q : tTk) : tRs := if q.2.2.1 = nI 2 then .ok (nxt E q, [(nI 0, q.2.2.2)]) else if isNm q.2.2.1 then .ok (nxt E q, [(q.2.2.1 - nI 40, q.2.2.2)]) else .error (nI 1, q.1)
def pPL (E : tEn) : Nat → tTk → tLs → tRs
  | 0, q, ps => .ok (q, ps)
  | k + 1, q, ps =>
    if q.2.2.1 = nI 147 then
      (if (nxt E q).2.2.1 = nI 2 then (if (nxt E q).2.2.2 = 0 then .error (nI 2, (nxt E q).1) else pPL E k (nxt E (nxt E q)) (ps ++ [(nI 16, (nxt E q).2.2.2)])) else .error (nI 1, (nxt E q).1))
    else if q.2.2.1 = nI 142 then bindR (pUn E (nxt E q)) (fun p => pPL E k p.1 (ps ++ p.2 ++ [(nI 15, nI 0)]))
    else .ok (q, ps)
def pPr (E : tEn) (q : tTk) : tRs := bindR (pUn E q) (fun p => pPL E 401 p.1 p.2)
def pSL (E : tEn) : Nat → tTk → tLs → tRs
  | 0, q, ps => .ok (q, ps)
  | k + 1, q, ps =>
    if q.2.2.1 = nI 143 then bindR (pPr E (nxt E q)) (fun p => pSL E k p.1 (ps ++ p.2 ++ [(nI 13, nI 0)]))
    else if q.2.2.1 = nI 145 then bindR (pPr E (nxt E q)) (fun p => pSL E k p.1 (ps ++ p.2 ++ [(nI 14, nI 0)]))
    else .ok (q, ps)
def pSu (E : tEn) (q : tTk) : tRs := bindR (pPr E q) (fun p => pSL E 401 p.1 p.2)
/-- a chain of tests with a word between: and, or -/
def chL (E : tEn) (f : tTk → tRs) (tok how : Int32) : Nat → tTk → tLs → tRs
  | 0, q, ps => .ok (q, ps)
  | k + 1, q, ps => if q.2.2.1 = tok then bindR (f (nxt E q)) (fun p => chL E f tok how k p.1 (ps ++ p.2 ++ [(how, nI 0)])) else .ok (q, ps)
def chF (E : tEn) (f : tTk → tRs) (tok how : Int32) (q : tTk) : tRs := bindR (f q) (fun p => chL E f tok how 401 p.1 p.2)
def pNd (E : tEn) (c : Int32) (p : tTk × tLs) : tRs := if p.1.2.2.1 = c then .ok (nxt E p.1, p.2) else .error (nI 1, p.1.1)
def pHow (c : Int32) : Int32 := if c = nI 160 then nI 17 else if c = nI 161 then nI 18 else if c = nI 162 then nI 19 else -1
def pOne (E : tEn) : Nat → Nat → tTk → tRs
  | 0, _, q => .ok (q, [])
  | k + 1, dep, q =>
    if q.2.2.1 = nI 6 then (if dep = 8 then .error (nI 3, q.1) else bindR (pOne E k (dep + 1) (nxt E q)) (fun p => .ok (p.1, p.2 ++ [(nI 20, nI 0)])))
    else if q.2.2.1 = nI 140 then (if dep = 8 then .error (nI 3, q.1) else bindR (chF E (chF E (pOne E k (dep + 1)) (nI 5) (nI 21)) (nI 4) (nI 22) (nxt E q)) (fun p => pNd E (nI 141) p))
    else bindR (pSu E q) (fun p => if pHow p.1.2.2.1 = -1 then .error (nI 1, p.1.1) else bindR (pSu E (nxt E p.1)) (fun p2 => .ok (p2.1, p.2 ++ p2.2 ++ [(pHow p.1.2.2.1, nI 0)])))
def pEv (E : tEn) (k dep : Nat) (q : tTk) : tRs := chF E (pOne E k dep) (nI 5) (nI 21) q
def pAn (E : tEn) (k dep : Nat) (q : tTk) : tRs := chF E (pEv E k dep) (nI 4) (nI 22) q
/-- a token as it stands -/
def tkv (t : Nat) (q : tTk) : Prop := q.1 ≤ q.2.1 ∧ q.2.1 ≤ t ∧ (q.2.2.1 ≠ nI 0 → q.1 < q.2.1)
theorem nxC_v {wh : Int32} {b : Nat → Int32} {t s : Nat} {v : Int32} (hs : s ≤ t) : tkv t (nxC wh b t s v) ∧ (nxC wh b t s v).1 = s := by
  unfold nxC
  by_cases h1 : sq b t s = -1
  · rw [if_pos h1]
    exact ⟨⟨Nat.le_refl s, hs, fun h => absurd rfl h⟩, rfl⟩
  · rw [if_neg h1]
    have hlt := sq_lt h1
    by_cases h2 : isLe (sq b t s)
    · rw [if_pos h2]
      have := leL_le (b := b) (t := t) 401 s hs
      have h3 : leL b t 401 s = leL b t 400 (s + 1) := by rw [leL, if_pos h2]
      have h4 := leL_le (b := b) (t := t) 400 (s + 1) (by omega)
      exact ⟨⟨this.1, this.2, fun _ => by show s < leL b t 401 s; omega⟩, rfl⟩
    · rw [if_neg h2]
      by_cases h5 : isDi (sq b t s)
      · rw [if_pos h5]
        have := diL_le (b := b) (t := t) (s := s) 401 s (nI 0) hs
        have h3 : diL b t s 401 s (nI 0) = diL b t s 400 (s + 1) (if s < s + 4 then nI 10 * nI 0 + sq b t s - nI 48 else nI 0) := by rw [diL, if_pos h5]
        have h4 := diL_le (b := b) (t := t) (s := s) 400 (s + 1) (if s < s + 4 then nI 10 * nI 0 + sq b t s - nI 48 else nI 0) (by omega)
        rw [← h3] at h4
        exact ⟨⟨this.1, this.2, fun _ => by show s < (diL b t s 401 s (nI 0)).1; omega⟩, rfl⟩
      · rw [if_neg h5]
        exact ⟨⟨Nat.le_succ s, hlt, fun _ => Nat.lt_succ_self s⟩, rfl⟩
theorem nxt_v {E : tEn} {q : tTk} (h : tkv E.2.2 q) : tkv E.2.2 (nxt E q) ∧ q.2.1 ≤ (nxt E q).1 := by
  have h1 := spL_le (b := E.2.1) (t := E.2.2) 401 q.2.1 h.2.1
  have h2 := nxC_v (wh := E.1) (b := E.2.1) (v := q.2.2.2) h1.2
  refine ⟨h2.1, ?_⟩
  show q.2.1 ≤ (nxC E.1 E.2.1 E.2.2 (spL E.2.1 E.2.2 401 q.2.1) q.2.2.2).1
  rw [h2.2]
  exact h1.1
theorem nxt_lt {E : tEn} {q : tTk} (h : tkv E.2.2 q) (hc : q.2.2.1 ≠ nI 0) : q.1 + 1 ≤ (nxt E q).1 := Nat.le_trans (h.2.2 hc) (nxt_v h).2
/-- what the reader leaves alone -/
def rX (T T' : tT) : Prop := (∀ a k, a ≠ 5 → a ≠ 0 → T' a k = T a k) ∧ ∀ k, (k < 13 ∨ k = 14 ∨ k = 15 ∨ k = 16 ∨ k = 23 ∨ 24 < k) → T' 0 k = T 0 k
theorem rX.refl {T : tT} : rX T T := ⟨fun _ _ _ _ => rfl, fun _ _ => rfl⟩
theorem rX.trans {T T1 T2 : tT} (h : rX T T1) (h2 : rX T1 T2) : rX T T2 := ⟨fun a k h5 h0 => (h2.1 a k h5 h0).trans (h.1 a k h5 h0), fun k hk => (h2.2 k hk).trans (h.2 k hk)⟩
def rO (E : tEn) (T0 : tT) (q0 : tTk) (n dep j : Nat) (q : tTk × tLs) (T : tT) : Prop :=
  rX T0 T ∧ (T 0 11 = E.1 ∧ T 7 = E.2.1 ∧ T 0 16 = nI E.2.2 ∧ E.2.2 ≤ 400) ∧ (T 0 17 = nI q.1.2.1 ∧ T 0 18 = q.1.2.2.1 ∧ T 0 19 = nI q.1.1 ∧ T 0 20 = q.1.2.2.2 ∧ T 0 13 = nI (n + q.2.length) ∧ T 0 24 = nI dep ∧ T 0 21 = T0 0 21) ∧ ((∀ k, k < 2 * n → T 5 k = T0 5 k) ∧ ∀ (i : Nat) (p : Int32 × Int32), q.2[i]? = some p → T 5 (2 * (n + i)) = p.1 ∧ T 5 (2 * (n + i) + 1) = p.2) ∧ tkv E.2.2 q.1 ∧ (n ≤ q0.1 ∧ q0.1 + q.2.length + j ≤ q.1.1)
abbrev rI (E : tEn) (T : tT) (q : tTk) (n dep : Nat) : Prop := rO E T q n dep 0 (q, []) T
def rE (T0 : tT) (q : Int32 × Nat) (T : tT) : Prop := rX T0 T ∧ T 0 21 = q.1 ∧ T 0 22 = nI q.2
def rP (E : tEn) (T0 : tT) (q0 : tTk) (n dep : Nat) (R : tRs) (r : Int32) (T : tT) : Prop := match R with
  | .error q => r = nI 0 ∧ rE T0 q T
  | .ok q => r = nI 1 ∧ rO E T0 q0 n dep 0 q T
section TP80
variable {E : tEn} {T0 T1 T2 T : tT} {q0 q1 q2 : tTk} {n dep dep' j : Nat} {ps qs : tLs}
theorem rP_e {R : tRs} {q : Int32 × Nat} (h : R = .error q) (h2 : rE T0 q T) : rP E T0 q0 n dep R (nI 0) T := by rw [h]; exact ⟨rfl, h2⟩
theorem rP_k {R : tRs} {q : tTk × tLs} (h : R = .ok q) (h2 : rO E T0 q0 n dep 0 q T) : rP E T0 q0 n dep R (nI 1) T := by rw [h]; exact ⟨rfl, h2⟩
theorem rP_or {R : tRs} {r : Int32} (h : rP E T0 q0 n dep R r T) : (∃ q, R = .error q ∧ r = nI 0 ∧ rE T0 q T) ∨ (∃ (q : tTk) (ps : tLs), R = .ok (q, ps) ∧ r = nI 1 ∧ rO E T0 q0 n dep 0 (q, ps) T) := by
  cases R with
  | error q => exact Or.inl ⟨q, rfl, h.1, h.2⟩
  | ok q => exact Or.inr ⟨q.1, q.2, rfl, h.1, h.2⟩
theorem rE.comp {q : Int32 × Nat} (h : rX T0 T1) (h2 : rE T1 q T2) : rE T0 q T2 := ⟨h.trans h2.1, h2.2⟩
theorem rO.self (h : rO E T0 q0 n dep j (q1, ps) T1) : rI E T1 q1 (n + ps.length) dep := by
  obtain ⟨h1, h2, ⟨a1, a2, a3, a4, a5, a6, a7⟩, h4, h5, h6, h7⟩ := h
  exact ⟨rX.refl, h2, ⟨a1, a2, a3, a4, a5, a6, rfl⟩, ⟨fun _ _ => rfl, fun i p e => by cases e⟩, h5, by simp only at h7 ⊢; omega, by simp⟩
theorem rO.tok (h : rO E T0 q0 n dep j (q1, ps) T1) : T1 0 18 = q1.2.2.1 := h.2.2.1.2.1
theorem rO.val (h : rO E T0 q0 n dep j (q1, ps) T1) : T1 0 20 = q1.2.2.2 := h.2.2.1.2.2.2.1
theorem rO.stp (h : rO E T0 q0 n dep j (q1, ps) T1) : T1 0 13 = nI (n + ps.length) := h.2.2.1.2.2.2.2.1
theorem rO.dpt (h : rO E T0 q0 n dep j (q1, ps) T1) : T1 0 24 = nI dep := h.2.2.1.2.2.2.2.2.1
theorem rO.tk (h : rO E T0 q0 n dep j (q1, ps) T1) : tkv E.2.2 q1 := h.2.2.2.2.1
theorem rO.less (h : rO E T0 q0 n dep (j + 1) (q1, ps) T1) : rO E T0 q0 n dep j (q1, ps) T1 := by
  obtain ⟨h1, h2, h3, h4, h5, h6, h7⟩ := h
  exact ⟨h1, h2, h3, h4, h5, h6, by simp only at h7 ⊢; omega⟩
theorem rO.ge (h : rO E T0 q0 n dep j (q1, ps) T1) {j' : Nat} (hj : j' ≤ j) : rO E T0 q0 n dep j' (q1, ps) T1 := by
  obtain ⟨h1, h2, h3, h4, h5, h6, h7⟩ := h
  exact ⟨h1, h2, h3, h4, h5, h6, by simp only at h7 ⊢; omega⟩
theorem rO.le (h : rO E T0 q0 n dep j (q1, ps) T1) : n + ps.length + j ≤ q1.1 ∧ q1.1 ≤ E.2.2 ∧ E.2.2 ≤ 400 := by
  obtain ⟨h1, h2, h3, h4, h5, h6, h7⟩ := h
  have h8 := h5.1
  have h9 := h5.2.1
  have h10 := h2.2.2.2
  simp only at h7 h8 h9
  omega
theorem rO.comp (h : rO E T0 q0 n dep j (q1, ps) T1) (h2 : rO E T1 q1 (n + ps.length) dep' 0 (q2, qs) T2) : rO E T0 q0 n dep' j (q2, ps ++ qs) T2 := by
  obtain ⟨a1, a2, a3, a4, a5, a6, a7⟩ := h
  obtain ⟨b1, b2, ⟨c1, c2, c3, c4, c5, c6, c7⟩, b4, b5, b6, b7⟩ := h2
  refine ⟨a1.trans b1, b2, ⟨c1, c2, c3, c4, ?_, c6, c7.trans a3.2.2.2.2.2.2⟩, ⟨fun k hk => (b4.1 k (by omega)).trans (a4.1 k hk), fun i p hp => ?_⟩, b5, a6, ?_⟩
  · rw [c5, List.length_append, Nat.add_assoc]
  · rw [List.getElem?_append] at hp
    by_cases hi : i < ps.length
    · rw [if_pos hi] at hp
      have h9 := a4.2 i p hp
      rw [b4.1 _ (by omega), b4.1 _ (by omega)]
      exact h9
    · rw [if_neg hi] at hp
      have h9 := b4.2 _ p hp
      rw [show n + ps.length + (i - ps.length) = n + i by omega] at h9
      exact h9
  · rw [List.length_append]
    simp only at a7 b7 ⊢
    omega
theorem rX_tS {q : tTk} : rX T (tSk T q) := by
  refine ⟨fun a k h5 h0 => ?_, fun k hk => ?_⟩
  · show tS4 T _ _ _ _ a k = T a k
    rw [tS4, if_neg h0]
  · show tS4 T _ _ _ _ 0 k = T 0 k
    rw [tS4, if_pos rfl, if_neg (by omega), if_neg (by omega), if_neg (by omega), if_neg (by omega)]
theorem rO.next (h : rO E T0 q0 n dep j (q1, ps) T1) (hc : q1.2.2.1 ≠ nI 0) : rO E T0 q0 n dep (j + 1) (nxt E q1, ps) (tSk T1 (nxt E q1)) := by
  have hv := nxt_v h.tk
  have hl := nxt_lt h.tk hc
  obtain ⟨a1, a2, ⟨c1, c2, c3, c4, c5, c6, c7⟩, a4, a5, a6, a7⟩ := h
  refine ⟨a1.trans rX_tS, a2, ⟨rfl, rfl, rfl, rfl, c5, c6, c7⟩, a4, hv.1, a6, ?_⟩
  simp only at a7 ⊢
  omega
theorem rO.dn (h : rO E T0 q0 n (dep + 1) j (q1, ps) T1) : rO E T0 q0 n dep j (q1, ps) (tu T1 0 24 (nI dep)) := by
  obtain ⟨a1, a2, ⟨c1, c2, c3, c4, c5, c6, c7⟩, a4, a5, a6, a7⟩ := h
  refine ⟨a1.trans ⟨fun a k h5 h0 => ?_, fun k hk => ?_⟩, a2, ⟨c1, c2, c3, c4, c5, ?_, c7⟩, a4, a5, a6, a7⟩
  · simp [tu, h0]
  · have : k ≠ 24 := by omega
    simp [tu, this]
  · simp [tu]
theorem rO.upd (h : rO E T0 q0 n dep j (q1, ps) T1) {d2 : Nat} : rO E T0 q0 n d2 j (q1, ps) (tu T1 0 24 (nI d2)) := by
  obtain ⟨a1, a2, ⟨c1, c2, c3, c4, c5, c6, c7⟩, a4, a5, a6, a7⟩ := h
  refine ⟨a1.trans ⟨fun a k h5 h0 => ?_, fun k hk => ?_⟩, a2, ⟨c1, c2, c3, c4, c5, ?_, c7⟩, a4, a5, a6, a7⟩
  · simp [tu, h0]
  · have : k ≠ 24 := by omega
    simp [tu, this]
  · simp [tu]
theorem rO.lay (h : rO E T0 q0 n dep (j + 1) (q1, ps) T1) {x y : Int32} : rO E T0 q0 n dep j (q1, ps ++ [(x, y)]) (tu (tu (tu T1 5 (2 * (n + ps.length)) x) 5 (2 * (n + ps.length) + 1) y) 0 13 (nI (n + ps.length + 1))) := by
  obtain ⟨a1, a2, ⟨c1, c2, c3, c4, c5, c6, c7⟩, a4, a5, a6, a7⟩ := h
  refine ⟨a1.trans ⟨fun a k h5 h0 => ?_, fun k hk => ?_⟩, a2, ⟨c1, c2, c3, c4, ?_, c6, c7⟩, ⟨fun k hk => ?_, fun i p hp => ?_⟩, a5, a6, ?_⟩
  · simp [tu, h5, h0]
  · have : k ≠ 13 := by omega
    simp [tu, this]
  · simp [tu, Nat.add_assoc]
  · have e1 : k ≠ 2 * (n + ps.length) := by omega
    have e2 : k ≠ 2 * (n + ps.length) + 1 := by omega
    rw [← a4.1 k hk]
    simp [tu, e1, e2]
  · rw [List.getElem?_append] at hp
    by_cases hi : i < ps.length
    · rw [if_pos hi] at hp
      have h9 := a4.2 i p hp
      have e1 : 2 * (n + i) ≠ 2 * (n + ps.length) := by omega
      have e2 : 2 * (n + i) ≠ 2 * (n + ps.length) + 1 := by omega
      have e3 : 2 * (n + i) + 1 ≠ 2 * (n + ps.length) := by omega
      have e4 : 2 * (n + i) + 1 ≠ 2 * (n + ps.length) + 1 := by omega
      rw [← h9.1, ← h9.2]
      constructor
      · simp only [tu, e1, e2, and_false, if_false]
        simp
      · simp only [tu, e3, e4, and_false, if_false]
        simp
    · rw [if_neg hi] at hp
      have hi0 : i - ps.length = 0 := by
        rcases Nat.eq_zero_or_pos (i - ps.length) with z | z
        · exact z
        · obtain ⟨m, hm⟩ : ∃ m, i - ps.length = m + 1 := ⟨i - ps.length - 1, by omega⟩
          rw [hm] at hp
          cases hp
      rw [hi0] at hp
      cases hp
      obtain rfl : i = ps.length := by omega
      constructor
      · simp [tu]
      · simp [tu]
  · rw [List.length_append]
    simp only [List.length_cons, List.length_nil] at a7 ⊢
    omega
end TP80
/-- calls in the reader: the row w stays -/
def tv_p (g : fc_G) (M : fc_M) (w : Nat → Int32) (P : Int32 → tT → Prop) : Outcome → fc_M → Prop := tv_i g M (fun r T2 w2 => P r T2 ∧ w2 = w)
def tv_q (g : fc_G) (M : fc_M) (w : Nat → Int32) (P : tT → Prop) : Outcome → fc_M → Prop := tv_v g M (fun T2 w2 => P T2 ∧ w2 = w)
section TP80b
variable {g : fc_G} {l : Launch} {y : MethodName} {cc : ByteArray} {nL : Nat} {ret : Option FieldType} {d n0 s0 : Nat} {M : fc_M} {pc : Nat} {L : List (Option Value)} {st : List Value} {Q : Outcome → fc_M → Prop} {T : tT} {w : Nat → Int32}
theorem tv_pe {P : Int32 → tT → Prop} {r : Int32} (h : P r T) : tv_p g M w P (.returned (some (.int r))) (tv g M T w) := tv_ip ⟨h, rfl⟩
theorem tv_qe {P : tT → Prop} (h : P T) : tv_q g M w P (.returned none) (tv g M T w) := tv_vp ⟨h, rfl⟩
theorem y_V0p {y2 : MethodName} {c2 : ByteArray} {n2 d2 i : Nat} {r2 : Option FieldType} {P : Int32 → tT → Prop} (hM : tw0 + 17 ≤ fc_nx M) (hd : decode cc pc = .ok (.invokevirtual i, 3)) (hG : GoodIn lw_all (wsV y.cls i y2.cls y2 (ws_ y2 c2 n2 r2))) (hpar : kPar y2 0) (hcl : y2.cls = RX6) (hdd : d2 + 1 ≤ d) (hn2 : n2 ≤ 45) (hrest : (st.map fun v => v.category).sum ≤ 8) (hC : fc_CX g l y2 c2 n2 r2 d2 [.ref (fc_B g + tw0)] (tv g M T w) (tv_p g M w P)) (kk : ∀ (r : Int32) (T2 : tT), P r T2 → fc_X g l y cc nL ret d n0 s0 (tv g M T2 w) (pc + 3) L (.int r :: st) Q) : fc_X g l y cc nL ret d n0 s0 (tv g M T w) pc L (.ref (fc_B g + tw0) :: st) Q :=
  v_V0i hM hd hG hpar hcl hdd hn2 hrest hC (fun r T2 w2 h => by rw [h.2]; exact kk r T2 h.1)
theorem y_V0q {y2 : MethodName} {c2 : ByteArray} {n2 d2 i : Nat} {r2 : Option FieldType} {P : tT → Prop} (hM : tw0 + 17 ≤ fc_nx M) (hd : decode cc pc = .ok (.invokevirtual i, 3)) (hG : GoodIn lw_all (wsV y.cls i y2.cls y2 (ws_ y2 c2 n2 r2))) (hpar : kPar y2 0) (hcl : y2.cls = RX6) (hdd : d2 + 1 ≤ d) (hn2 : n2 ≤ 45) (hrest : (st.map fun v => v.category).sum ≤ 8) (hC : fc_CX g l y2 c2 n2 r2 d2 [.ref (fc_B g + tw0)] (tv g M T w) (tv_q g M w P)) (kk : ∀ (T2 : tT), P T2 → fc_X g l y cc nL ret d n0 s0 (tv g M T2 w) (pc + 3) L st Q) : fc_X g l y cc nL ret d n0 s0 (tv g M T w) pc L (.ref (fc_B g + tw0) :: st) Q :=
  v_V0v hM hd hG hpar hcl hdd hn2 hrest hC (fun T2 w2 h => by rw [h.2]; exact kk T2 h.1)
theorem y_V1p {y2 : MethodName} {c2 : ByteArray} {n2 d2 i : Nat} {r2 : Option FieldType} {a1 : Value} {P : Int32 → tT → Prop} (hM : tw0 + 17 ≤ fc_nx M) (hd : decode cc pc = .ok (.invokevirtual i, 3)) (hG : GoodIn lw_all (wsV y.cls i y2.cls y2 (ws_ y2 c2 n2 r2))) (hpar : kPar y2 1) (hcl : y2.cls = RX6) (hdd : d2 + 1 ≤ d) (hn2 : n2 ≤ 45) (hrest : (st.map fun v => v.category).sum ≤ 8) (hC : fc_CX g l y2 c2 n2 r2 d2 [.ref (fc_B g + tw0), a1] (tv g M T w) (tv_p g M w P)) (kk : ∀ (r : Int32) (T2 : tT), P r T2 → fc_X g l y cc nL ret d n0 s0 (tv g M T2 w) (pc + 3) L (.int r :: st) Q) : fc_X g l y cc nL ret d n0 s0 (tv g M T w) pc L (a1 :: .ref (fc_B g + tw0) :: st) Q :=
  v_V1i hM hd hG hpar hcl hdd hn2 hrest hC (fun r T2 w2 h => by rw [h.2]; exact kk r T2 h.1)
theorem y_V1q {y2 : MethodName} {c2 : ByteArray} {n2 d2 i : Nat} {r2 : Option FieldType} {a1 : Value} {P : tT → Prop} (hM : tw0 + 17 ≤ fc_nx M) (hd : decode cc pc = .ok (.invokevirtual i, 3)) (hG : GoodIn lw_all (wsV y.cls i y2.cls y2 (ws_ y2 c2 n2 r2))) (hpar : kPar y2 1) (hcl : y2.cls = RX6) (hdd : d2 + 1 ≤ d) (hn2 : n2 ≤ 45) (hrest : (st.map fun v => v.category).sum ≤ 8) (hC : fc_CX g l y2 c2 n2 r2 d2 [.ref (fc_B g + tw0), a1] (tv g M T w) (tv_q g M w P)) (kk : ∀ (T2 : tT), P T2 → fc_X g l y cc nL ret d n0 s0 (tv g M T2 w) (pc + 3) L st Q) : fc_X g l y cc nL ret d n0 s0 (tv g M T w) pc L (a1 :: .ref (fc_B g + tw0) :: st) Q :=
  v_V1v hM hd hG hpar hcl hdd hn2 hrest hC (fun T2 w2 h => by rw [h.2]; exact kk T2 h.1)
theorem y_V2p {y2 : MethodName} {c2 : ByteArray} {n2 d2 i : Nat} {r2 : Option FieldType} {a1 a2 : Value} {P : Int32 → tT → Prop} (hM : tw0 + 17 ≤ fc_nx M) (hd : decode cc pc = .ok (.invokevirtual i, 3)) (hG : GoodIn lw_all (wsV y.cls i y2.cls y2 (ws_ y2 c2 n2 r2))) (hpar : kPar y2 2) (hcl : y2.cls = RX6) (hdd : d2 + 1 ≤ d) (hn2 : n2 ≤ 45) (hrest : (st.map fun v => v.category).sum ≤ 8) (hC : fc_CX g l y2 c2 n2 r2 d2 [.ref (fc_B g + tw0), a1, a2] (tv g M T w) (tv_p g M w P)) (kk : ∀ (r : Int32) (T2 : tT), P r T2 → fc_X g l y cc nL ret d n0 s0 (tv g M T2 w) (pc + 3) L (.int r :: st) Q) : fc_X g l y cc nL ret d n0 s0 (tv g M T w) pc L (a2 :: a1 :: .ref (fc_B g + tw0) :: st) Q :=
  v_V2i hM hd hG hpar hcl hdd hn2 hrest hC (fun r T2 w2 h => by rw [h.2]; exact kk r T2 h.1)
theorem y_V2q {y2 : MethodName} {c2 : ByteArray} {n2 d2 i : Nat} {r2 : Option FieldType} {a1 a2 : Value} {P : tT → Prop} (hM : tw0 + 17 ≤ fc_nx M) (hd : decode cc pc = .ok (.invokevirtual i, 3)) (hG : GoodIn lw_all (wsV y.cls i y2.cls y2 (ws_ y2 c2 n2 r2))) (hpar : kPar y2 2) (hcl : y2.cls = RX6) (hdd : d2 + 1 ≤ d) (hn2 : n2 ≤ 45) (hrest : (st.map fun v => v.category).sum ≤ 8) (hC : fc_CX g l y2 c2 n2 r2 d2 [.ref (fc_B g + tw0), a1, a2] (tv g M T w) (tv_q g M w P)) (kk : ∀ (T2 : tT), P T2 → fc_X g l y cc nL ret d n0 s0 (tv g M T2 w) (pc + 3) L st Q) : fc_X g l y cc nL ret d n0 s0 (tv g M T w) pc L (a2 :: a1 :: .ref (fc_B g + tw0) :: st) Q :=
  v_V2v hM hd hG hpar hcl hdd hn2 hrest hC (fun T2 w2 h => by rw [h.2]; exact kk T2 h.1)
theorem y_V3p {y2 : MethodName} {c2 : ByteArray} {n2 d2 i : Nat} {r2 : Option FieldType} {a1 a2 a3 : Value} {P : Int32 → tT → Prop} (hM : tw0 + 17 ≤ fc_nx M) (hd : decode cc pc = .ok (.invokevirtual i, 3)) (hG : GoodIn lw_all (wsV y.cls i y2.cls y2 (ws_ y2 c2 n2 r2))) (hpar : kPar y2 3) (hcl : y2.cls = RX6) (hdd : d2 + 1 ≤ d) (hn2 : n2 ≤ 45) (hrest : (st.map fun v => v.category).sum ≤ 8) (hC : fc_CX g l y2 c2 n2 r2 d2 [.ref (fc_B g + tw0), a1, a2, a3] (tv g M T w) (tv_p g M w P)) (kk : ∀ (r : Int32) (T2 : tT), P r T2 → fc_X g l y cc nL ret d n0 s0 (tv g M T2 w) (pc + 3) L (.int r :: st) Q) : fc_X g l y cc nL ret d n0 s0 (tv g M T w) pc L (a3 :: a2 :: a1 :: .ref (fc_B g + tw0) :: st) Q :=
  v_V3i hM hd hG hpar hcl hdd hn2 hrest hC (fun r T2 w2 h => by rw [h.2]; exact kk r T2 h.1)
theorem y_V3q {y2 : MethodName} {c2 : ByteArray} {n2 d2 i : Nat} {r2 : Option FieldType} {a1 a2 a3 : Value} {P : tT → Prop} (hM : tw0 + 17 ≤ fc_nx M) (hd : decode cc pc = .ok (.invokevirtual i, 3)) (hG : GoodIn lw_all (wsV y.cls i y2.cls y2 (ws_ y2 c2 n2 r2))) (hpar : kPar y2 3) (hcl : y2.cls = RX6) (hdd : d2 + 1 ≤ d) (hn2 : n2 ≤ 45) (hrest : (st.map fun v => v.category).sum ≤ 8) (hC : fc_CX g l y2 c2 n2 r2 d2 [.ref (fc_B g + tw0), a1, a2, a3] (tv g M T w) (tv_q g M w P)) (kk : ∀ (T2 : tT), P T2 → fc_X g l y cc nL ret d n0 s0 (tv g M T2 w) (pc + 3) L st Q) : fc_X g l y cc nL ret d n0 s0 (tv g M T w) pc L (a3 :: a2 :: a1 :: .ref (fc_B g + tw0) :: st) Q :=
  v_V3v hM hd hG hpar hcl hdd hn2 hrest hC (fun T2 w2 h => by rw [h.2]; exact kk T2 h.1)
end TP80b
