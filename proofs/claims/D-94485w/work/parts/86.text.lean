set_option maxRecDepth 100000
/-! texts as plain functions, and what the reference's memory is between their lines -/
def pRL (E : tEn) : Nat → tTk → List tLn → tLs → Except tEr (List tLn × tLs)
  | 0, _, ls, ps => .ok (ls, ps)
  | k + 1, q, ls, ps => if q.2.2.1 = 0 then .ok (ls, ps) else match pLn E q ls.length ps.length with
    | .error e => .error e
    | .ok x => pRL E k x.1 (ls ++ [x.2.1]) (ps ++ x.2.2)
def pTT (E : tEn) : Nat → tTk → Nat → tXs → Except tEr (Nat × tXs)
  | 0, _, ln, X => .ok (ln, X)
  | k + 1, q, ln, X => if q.2.2.1 = 0 then .ok (ln, X) else match pTL E q ln X with
    | .error e => .error e
    | .ok x => pTT E k x.1 (ln + 1) x.2
theorem pRL_0 {E : tEn} {k : Nat} {q : tTk} {ls : List tLn} {ps : tLs} (h : q.2.2.1 = 0) : pRL E (k + 1) q ls ps = .ok (ls, ps) := by rw [pRL, if_pos h]
theorem pRL_e {E : tEn} {k : Nat} {q : tTk} {ls : List tLn} {ps : tLs} {e : tEr} (h : ¬ q.2.2.1 = 0) (h2 : pLn E q ls.length ps.length = .error e) : pRL E (k + 1) q ls ps = .error e := by rw [pRL, if_neg h, h2]
theorem pRL_k {E : tEn} {k : Nat} {q : tTk} {ls : List tLn} {ps : tLs} {x : tTk × tLn × tLs} (h : ¬ q.2.2.1 = 0) (h2 : pLn E q ls.length ps.length = .ok x) : pRL E (k + 1) q ls ps = pRL E k x.1 (ls ++ [x.2.1]) (ps ++ x.2.2) := by rw [pRL, if_neg h, h2]
theorem pTT_0 {E : tEn} {k : Nat} {q : tTk} {ln : Nat} {X : tXs} (h : q.2.2.1 = 0) : pTT E (k + 1) q ln X = .ok (ln, X) := by rw [pTT, if_pos h]
theorem pTT_e {E : tEn} {k : Nat} {q : tTk} {ln : Nat} {X : tXs} {e : tEr} (h : ¬ q.2.2.1 = 0) (h2 : pTL E q ln X = .error e) : pTT E (k + 1) q ln X = .error e := by rw [pTT, if_neg h, h2]
theorem pTT_k {E : tEn} {k : Nat} {q : tTk} {ln : Nat} {X : tXs} {x : tTk × tXs} (h : ¬ q.2.2.1 = 0) (h2 : pTL E q ln X = .ok x) : pTT E (k + 1) q ln X = pTT E k x.1 (ln + 1) x.2 := by rw [pTT, if_neg h, h2]
def rY (T T' : tT) : Prop := (∀ a k, a ≠ 0 → a ≠ 4 → a ≠ 5 → a ≠ 6 → a ≠ 10 → T' a k = T a k) ∧ ∀ k, (k < 11 ∨ k = 23 ∨ 24 < k) → T' 0 k = T 0 k
section TP86
variable {E : tEn} {T T0 T1 T2 B : tT} {q : tTk} {ls : List tLn} {ps : tLs}
theorem rY.refl : rY T T := ⟨fun _ _ _ _ _ _ _ => rfl, fun _ _ => rfl⟩
theorem rY.trans (h : rY T T1) (h2 : rY T1 T2) : rY T T2 := ⟨fun a k h0 h4 h5 h6 h10 => (h2.1 a k h0 h4 h5 h6 h10).trans (h.1 a k h0 h4 h5 h6 h10), fun k hk => (h2.2 k hk).trans (h.2 k hk)⟩
theorem rX.toY (h : rX T T1) : rY T T1 := ⟨fun a k h0 _ h5 _ _ => h.1 a k h5 h0, fun k hk => h.2 k (by omega)⟩
theorem rB.toY (h : rB T B) : rY T B := ⟨fun a k _ h4 _ _ _ => h a k h4, fun k _ => h 0 k (by decide)⟩
theorem rC.toY (h : rC T B) : rY T B := ⟨fun a k _ _ _ h6 h10 => h a k h6 h10 (fun e => by omega), fun k hk => h 0 k (by decide) (by decide) (fun e => by omega)⟩
theorem rY_f {i : Nat} {v : Int32} (hi : 10 < i ∧ i ≠ 23 ∧ i ≤ 24) : rY T (tu T 0 i v) := ⟨fun a k h0 _ _ _ _ => if_neg (fun (e : a = 0 ∧ k = i) => h0 e.1), fun k hk => if_neg (fun (e : (0 : Nat) = 0 ∧ k = i) => by omega)⟩
/-- between the lines of a rule -/
def uR (E : tEn) (T0 : tT) (q : tTk) (ls : List tLn) (ps : tLs) (T1 : tT) : Prop :=
  rY T0 T1 ∧ (T1 0 12 = nI ls.length ∧ ls.length ≤ 16) ∧ (∀ (i : Nat) (l : tLn), ls[i]? = some l → T1 4 (4 * i) = l.1 ∧ T1 4 (4 * i + 1) = nI l.2.1 ∧ T1 4 (4 * i + 2) = nI l.2.2.1 ∧ T1 4 (4 * i + 3) = nI l.2.2.2) ∧ (∀ (i : Nat) (p : Int32 × Int32), ps[i]? = some p → T1 5 (2 * i) = p.1 ∧ T1 5 (2 * i + 1) = p.2) ∧ (∃ dep, rI E T1 q ps.length dep) ∧ T1 0 21 = nI 0
theorem pLn_ln {ln n : Nat} {x : tTk × tLn × tLs} (h : pLn E q ln n = .ok x) : ln ≠ 16 := by
  intro e
  unfold pLn at h
  by_cases c : isLn q.2.2.1
  · rw [if_pos c, if_pos e] at h; cases h
  · rw [if_neg c] at h; cases h
theorem fl4_n {ln a k : Nat} {l : tLn} (ha : a ≠ 4) : fl4 T ln l a k = T a k := by simp [fl4, tu, ha]
theorem fl4_lo {ln k : Nat} {l : tLn} (hk : k < 4 * ln) : fl4 T ln l 4 k = T 4 k := by
  have e0 : k ≠ 4 * ln := by omega
  have e1 : k ≠ 4 * ln + 1 := by omega
  have e2 : k ≠ 4 * ln + 2 := by omega
  have e3 : k ≠ 4 * ln + 3 := by omega
  simp [fl4, tu, e0, e1, e2, e3]
theorem fl4_at {ln : Nat} {l : tLn} : fl4 T ln l 4 (4 * ln) = l.1 ∧ fl4 T ln l 4 (4 * ln + 1) = nI l.2.1 ∧ fl4 T ln l 4 (4 * ln + 2) = nI l.2.2.1 ∧ fl4 T ln l 4 (4 * ln + 3) = nI l.2.2.2 := by
  refine ⟨?_, ?_, ?_, ?_⟩ <;> simp [fl4, tu]
theorem getq_last {α : Type} {l : List α} {x y : α} {i : Nat} (h : (l ++ [x])[i]? = some y) : (i < l.length ∧ l[i]? = some y) ∨ (i = l.length ∧ y = x) := by
  rw [List.getElem?_append] at h
  by_cases hi : i < l.length
  · rw [if_pos hi] at h; exact Or.inl ⟨hi, h⟩
  · rw [if_neg hi] at h
    rcases Nat.eq_zero_or_pos (i - l.length) with z | z
    · rw [z] at h
      have h9 : some x = some y := h
      exact Or.inr ⟨by omega, (Option.some.inj h9).symm⟩
    · obtain ⟨m, hm⟩ : ∃ m, i - l.length = m + 1 := ⟨i - l.length - 1, by omega⟩
      rw [hm] at h
      cases h
theorem uR.step (h : uR E T0 q ls ps T1) {x : tTk × tLn × tLs} (hx : pLn E q ls.length ps.length = .ok x) (h2 : rO E (fl4 T1 ls.length x.2.1) q ps.length 0 1 (x.1, x.2.2) T2) : uR E T0 x.1 (ls ++ [x.2.1]) (ps ++ x.2.2) (tu T2 0 12 (nI (ls.length + 1))) := by
  obtain ⟨a1, ⟨a2, a3⟩, a4, a5, a6, a7⟩ := h
  have hln := pLn_ln hx
  have hself := (h2.self).stf 12 (nI (ls.length + 1)) (by decide)
  obtain ⟨b1, b2, ⟨c1, c2, c3, c4, c5, c6, c7⟩, ⟨d1, d2⟩, d3, d4⟩ := h2
  have hY : rY T1 (fl4 T1 ls.length x.2.1) := ⟨fun a k _ h4 _ _ _ => fl4_n h4, fun k _ => fl4_n (by decide)⟩
  have z : ∀ (a k : Nat), ¬ (a = 0 ∧ k = 12) → tu T2 0 12 (nI (ls.length + 1)) a k = T2 a k := fun a k e => if_neg e
  refine ⟨((a1.trans hY).trans b1.toY).trans (rY_f (by decide)), ⟨?_, ?_⟩, fun i l hl => ?_, fun i p hp => ?_, ⟨0, ?_⟩, ?_⟩
  · rw [List.length_append]
    exact if_pos ⟨rfl, rfl⟩
  · rw [List.length_append]
    show ls.length + 1 ≤ 16
    omega
  · have e4 : ∀ k, T2 4 k = fl4 T1 ls.length x.2.1 4 k := fun k => b1.1 4 k (by decide) (by decide)
    rw [z _ _ (by omega), z _ _ (by omega), z _ _ (by omega), z _ _ (by omega), e4, e4, e4, e4]
    rcases getq_last hl with ⟨hi, hl2⟩ | ⟨hi, hl2⟩
    · rw [fl4_lo (by omega), fl4_lo (by omega), fl4_lo (by omega), fl4_lo (by omega)]
      exact a4 i l hl2
    · subst hi; subst hl2
      exact fl4_at
  · rw [z _ _ (by omega), z _ _ (by omega)]
    rw [List.getElem?_append] at hp
    by_cases hi : i < ps.length
    · rw [if_pos hi] at hp
      rw [d1 _ (by omega), d1 _ (by omega), fl4_n (by decide), fl4_n (by decide)]
      exact a5 i p hp
    · rw [if_neg hi] at hp
      have h9 := d2 _ p hp
      rw [show ps.length + (i - ps.length) = i by omega] at h9
      exact h9
  · rw [List.length_append]
    exact hself
  · rw [z _ _ (by omega), c7, fl4_n (by decide)]
    exact a7
/-- between the lines of a tower -/
def uV (E : tEn) (T0 : tT) (q : tTk) (ln : Nat) (X : tXs) (T1 : tT) : Prop :=
  rY T0 T1 ∧ (T1 0 12 = nI ln ∧ ln ≤ 40) ∧ xT T1 X ∧ (X.2.1 ≤ 4 ∧ ∃ F, X.1 = nI F ∧ F ≤ 80) ∧ (∃ dep, rI E T1 q 0 dep) ∧ T1 0 21 = nI 0
theorem pNu_ok {a b : Int32} {q2 : tTk} (h : pNu E a b q = .ok q2) : a ≤ q.2.2.2 ∧ q.2.2.2 ≤ b := by
  unfold pNu at h
  by_cases c : q.2.2.1 = nI 2
  · rw [if_pos c] at h
    by_cases c2 : a ≤ q.2.2.2 ∧ q.2.2.2 ≤ b
    · exact c2
    · rw [if_neg c2] at h; cases h
  · rw [if_neg c] at h; cases h
theorem pFl_ok {X : tXs} {x : tTk × tXs} (h : pFl E q X = .ok x) : X.1 ≤ 0 ∧ (nI 2 ≤ x.2.1 ∧ x.2.1 ≤ nI 80) ∧ x.2.2 = X.2 := by
  unfold pFl at h
  by_cases c : X.1 ≤ 0
  · rw [if_pos c] at h
    cases hp : pNu E (nI 2) (nI 80) (nxt E q) with
    | error e => rw [hp] at h; cases h
    | ok q2 =>
      rw [hp] at h
      cases h
      exact ⟨c, pNu_ok hp, rfl⟩
  · rw [if_neg c] at h; cases h
theorem pCr_ok {X : tXs} {x : tTk × tXs} (h : pCr E q X = .ok x) : X.1 ≠ 0 ∧ X.2.1 ≠ 4 ∧ x.2.1 = X.1 ∧ x.2.2.1 = X.2.1 + 1 := by
  unfold pCr at h
  by_cases c : X.1 = 0
  · rw [if_pos c] at h; cases h
  · rw [if_neg c] at h
    by_cases c2 : X.2.1 = 4
    · rw [if_pos c2] at h; cases h
    · rw [if_neg c2] at h
      cases hp : pCL E X.1 X.2.1 6 0 (nxt E q) X.2.2.1 with
      | error e => rw [hp] at h; cases h
      | ok y =>
        rw [hp] at h
        cases h
        exact ⟨c, c2, rfl, rfl⟩
theorem pSk_ok {X : tXs} {x : tTk × tXs} (h : pSk E q X = .ok x) : X.1 ≠ 0 ∧ x.2.1 = X.1 ∧ x.2.2.1 = X.2.1 := by
  unfold pSk at h
  by_cases c : X.1 = 0
  · rw [if_pos c] at h; cases h
  · rw [if_neg c] at h
    cases hp : pNu E (nI 0) (nI X.2.1 - nI 1) (nxt E q) with
    | error e => rw [hp] at h; cases h
    | ok q2 =>
      rw [hp] at h
      simp only at h
      cases hp2 : pNu E (nI 0) (X.1 - nI 1) q2 with
      | error e => rw [hp2] at h; cases h
      | ok q3 =>
        rw [hp2] at h
        cases h
        exact ⟨c, rfl, rfl⟩
theorem pTL_ok {ln : Nat} {X : tXs} {x : tTk × tXs} (h : pTL E q ln X = .ok x) (hX : X.2.1 ≤ 4 ∧ ∃ F, X.1 = nI F ∧ F ≤ 80) : ln ≠ 40 ∧ x.2.2.1 ≤ 4 ∧ ∃ F, x.2.1 = nI F ∧ F ≤ 80 := by
  unfold pTL at h
  by_cases c : isTl q.2.2.1
  · rw [if_pos c] at h
    by_cases c1 : ln = 40 ∧ ¬ (q.2.2.1 = nI 30 ∧ 0 < X.1) ∧ ¬ (¬ q.2.2.1 = nI 30 ∧ X.1 = 0)
    · rw [if_pos c1] at h; cases h
    · rw [if_neg c1] at h
      unfold pTM at h
      generalize hR : (if q.2.2.1 = nI 30 then pFl E q X else if q.2.2.1 = nI 31 then pCr E q X else pSk E q X) = R at h
      cases R with
      | error e => cases h
      | ok y =>
        have hxy : x.2 = y.2 := by
          have h9 : (if y.1.2.2.1 = nI 159 then Except.ok (nxt E y.1, y.2) else Except.error (nI 1, y.1.1)) = (Except.ok x : Except tEr (tTk × tXs)) := h
          by_cases c3 : y.1.2.2.1 = nI 159
          · rw [if_pos c3] at h9; cases h9; rfl
          · rw [if_neg c3] at h9; cases h9
        rw [hxy]
        obtain ⟨h4, F, hF, hF2⟩ := hX
        by_cases c4 : q.2.2.1 = nI 30
        · rw [if_pos c4] at hR
          have h5 := pFl_ok hR
          refine ⟨fun e => c1 ⟨e, fun z => absurd z.2 (Int32.not_lt.mpr h5.1), fun z => z.1 c4⟩, by rw [h5.2.2]; exact h4, ?_⟩
          obtain ⟨m, hm1, hm2, hm3⟩ := nI_between (a := 2) (b := 80) (by omega) h5.2.1 (by omega)
          exact ⟨m, hm3, hm2⟩
        · rw [if_neg c4] at hR
          by_cases c5 : q.2.2.1 = nI 31
          · rw [if_pos c5] at hR
            have h5 := pCr_ok hR
            exact ⟨fun e => c1 ⟨e, fun z => c4 z.1, fun z => h5.1 z.2⟩, by have := h5.2.1; rw [h5.2.2.2]; omega, F, by rw [h5.2.2.1]; exact hF, hF2⟩
          · rw [if_neg c5] at hR
            have h5 := pSk_ok hR
            exact ⟨fun e => c1 ⟨e, fun z => c4 z.1, fun z => h5.1 z.2⟩, by rw [h5.2.2]; exact h4, F, by rw [h5.2.1]; exact hF, hF2⟩
  · rw [if_neg c] at h; cases h
theorem uV.step {ln : Nat} {X : tXs} (h : uV E T0 q ln X T1) {x : tTk × tXs} (hx : pTL E q ln X = .ok x) {dep : Nat} (hB : rC T1 B) (hX2 : xT B x.2) (h2 : rO E B q 0 dep 1 (x.1, []) T2) : uV E T0 x.1 (ln + 1) x.2 (tu T2 0 12 (nI (ln + 1))) := by
  obtain ⟨a1, ⟨a2, a3⟩, a4, a5, a6, a7⟩ := h
  have hok := pTL_ok hx a5
  have hself := (h2.self).stf 12 (nI (ln + 1)) (by decide)
  obtain ⟨b1, b2, ⟨c1, c2, c3, c4, c5, c6, c7⟩, ⟨d1, d2⟩, d3, d4⟩ := h2
  have z : ∀ (a k : Nat), ¬ (a = 0 ∧ k = 12) → tu T2 0 12 (nI (ln + 1)) a k = T2 a k := fun a k e => if_neg e
  refine ⟨((a1.trans hB.toY).trans b1.toY).trans (rY_f (by decide)), ⟨if_pos ⟨rfl, rfl⟩, by omega⟩, ⟨?_, ?_, ?_, ?_⟩, hok.2, ⟨dep, hself⟩, ?_⟩
  · rw [z _ _ (by omega), b1.2 14 (by omega)]; exact hX2.1
  · rw [z _ _ (by omega), b1.2 15 (by omega)]; exact hX2.2.1
  · rw [← hX2.2.2.1]; funext k; rw [z _ _ (by omega), b1.1 6 k (by decide) (by decide)]
  · rw [← hX2.2.2.2]; funext k; rw [z _ _ (by omega), b1.1 10 k (by decide) (by decide)]
  · rw [z _ _ (by omega), c7, hB 0 21 (by decide) (by decide) (by omega)]
    exact a7
theorem lP_or {n ln : Nat} {r : Int32} {R : Except tEr (tTk × tLn × tLs)} (h : lP E T q n ln R r T2) : (∃ e, R = .error e ∧ r = nI 0 ∧ ∃ B, rB T B ∧ rE B e T2) ∨ (∃ x, R = .ok x ∧ r = nI 1 ∧ rO E (fl4 T ln x.2.1) q n 0 1 (x.1, x.2.2) T2) := by
  cases R with
  | error e => exact Or.inl ⟨e, rfl, h.1, h.2⟩
  | ok x => exact Or.inr ⟨x, rfl, h.1, h.2⟩
/-- the end of a text -/
def uE (T0 : tT) (e : tEr) (T : tT) : Prop := rY T0 T ∧ T 0 21 = e.1 ∧ T 0 22 = nI e.2
def uF (T0 : tT) (a b : Int32) (T : tT) : Prop := ((∀ i k, i ≠ 0 → i ≠ 4 → i ≠ 5 → i ≠ 6 → i ≠ 10 → T i k = T0 i k) ∧ ∀ k, (k < 11 ∨ 25 < k) → T 0 k = T0 0 k) ∧ T 0 16 = nI 0 ∧ T 0 23 = a ∧ T 0 25 = b
def fin3 (T : tT) (a b : Int32) : tT := tu (tu (tu T 0 16 (nI 0)) 0 23 a) 0 25 b
theorem uF_of {a b : Int32} (h : rY T0 T) : uF T0 a b (fin3 T a b) := by
  refine ⟨⟨fun i k h0 h4 h5 h6 h10 => ?_, fun k hk => ?_⟩, rfl, rfl, rfl⟩
  · rw [← h.1 i k h0 h4 h5 h6 h10]
    simp [fin3, tu, h0]
  · rw [← h.2 k (by omega)]
    have e1 : k ≠ 16 := by omega
    have e2 : k ≠ 23 := by omega
    have e3 : k ≠ 25 := by omega
    simp [fin3, tu, e1, e2, e3]
/-- the row behind a text -/
def tOf (ls : List tLn) (ps : tLs) : tT := fun a k => if a = 4 then (if k % 4 = 0 then (ls.getD (k / 4) (0, 0, 0, 0)).1 else if k % 4 = 1 then nI (ls.getD (k / 4) (0, 0, 0, 0)).2.1 else if k % 4 = 2 then nI (ls.getD (k / 4) (0, 0, 0, 0)).2.2.1 else nI (ls.getD (k / 4) (0, 0, 0, 0)).2.2.2) else (if k % 2 = 0 then (ps.getD (k / 2) (0, 0)).1 else (ps.getD (k / 2) (0, 0)).2)
def kRU (r : Nat) (ls : List tLn) (ps : tLs) (w : Nat → Int32) : Nat → Int32 := krW (tOf ls ps) r ls.length ps.length w
def tXf (X : tXs) : tT := fun a k => if a = 6 then X.2.2.1 k else X.2.2.2 k
def kTU (ln : Nat) (X : tXs) (w : Nat → Int32) : Nat → Int32 := ktW (tXf X) X.1.toNatClampNeg X.2.1 ln w
theorem klL_congr {T T' : tT} {r ln : Nat} (h : ∀ j, j < 4 * ln → T 4 j = T' 4 j) : ∀ (f i : Nat) (w : Nat → Int32), klL T r ln f i w = klL T' r ln f i w := by
  intro f
  induction f with
  | zero => intro i w; rfl
  | succ f ih =>
    intro i w
    rw [klL, klL]
    by_cases c : i < ln
    · rw [if_pos c, if_pos c, h _ (by omega), h _ (by omega), h _ (by omega), h _ (by omega), ih]
    · rw [if_neg c, if_neg c]
theorem ksL_congr {T T' : tT} {r n : Nat} (h : ∀ j, j < 2 * n → T 5 j = T' 5 j) : ∀ (f i : Nat) (w : Nat → Int32), ksL T r n f i w = ksL T' r n f i w := by
  intro f
  induction f with
  | zero => intro i w; rfl
  | succ f ih =>
    intro i w
    rw [ksL, ksL]
    by_cases c : i < 2 * n
    · rw [if_pos c, if_pos c, h _ c, ih]
    · rw [if_neg c, if_neg c]
theorem krW_of {r : Nat} {w : Nat → Int32} (h4 : ∀ (i : Nat) (l : tLn), ls[i]? = some l → T 4 (4 * i) = l.1 ∧ T 4 (4 * i + 1) = nI l.2.1 ∧ T 4 (4 * i + 2) = nI l.2.2.1 ∧ T 4 (4 * i + 3) = nI l.2.2.2) (h5 : ∀ (i : Nat) (p : Int32 × Int32), ps[i]? = some p → T 5 (2 * i) = p.1 ∧ T 5 (2 * i + 1) = p.2) : krW T r ls.length ps.length w = kRU r ls ps w := by
  have e4 : ∀ j, j < 4 * ls.length → T 4 j = tOf ls ps 4 j := by
    intro j hj
    have hq : ls[j / 4]? = some (ls.getD (j / 4) (0, 0, 0, 0)) := by
      rw [List.getD_eq_getElem?_getD, List.getElem?_eq_getElem (by omega)]
      rfl
    have h9 := h4 _ _ hq
    show T 4 j = (if j % 4 = 0 then _ else _)
    have hm : j % 4 = 0 ∨ j % 4 = 1 ∨ j % 4 = 2 ∨ j % 4 = 3 := by omega
    rcases hm with z | z | z | z
    · rw [if_pos z, ← h9.1]; congr 1; omega
    · rw [if_neg (by omega), if_pos z, ← h9.2.1]; congr 1; omega
    · rw [if_neg (by omega), if_neg (by omega), if_pos z, ← h9.2.2.1]; congr 1; omega
    · rw [if_neg (by omega), if_neg (by omega), if_neg (by omega), ← h9.2.2.2]; congr 1; omega
  have e5 : ∀ j, j < 2 * ps.length → T 5 j = tOf ls ps 5 j := by
    intro j hj
    have hq : ps[j / 2]? = some (ps.getD (j / 2) (0, 0)) := by
      rw [List.getD_eq_getElem?_getD, List.getElem?_eq_getElem (by omega)]
      rfl
    have h9 := h5 _ _ hq
    show T 5 j = (if j % 2 = 0 then _ else _)
    have hm : j % 2 = 0 ∨ j % 2 = 1 := by omega
    rcases hm with z | z
    · rw [if_pos z, ← h9.1]; congr 1; omega
    · rw [if_neg (by omega), ← h9.2]; congr 1; omega
  rw [kRU, krW, krW, klL_congr e4, ksL_congr e5]
theorem kcL_congr {T T' : tT} {c : Nat} (h : T 6 = T' 6) : ∀ (f i : Nat) (w : Nat → Int32), kcL T c f i w = kcL T' c f i w := by
  intro f
  induction f with
  | zero => intro i w; rfl
  | succ f ih => intro i w; rw [kcL, kcL, h, ih]
theorem kdL_congr {T T' : tT} {c F : Nat} (h : T 10 = T' 10) : ∀ (f i : Nat) (w : Nat → Int32), kdL T c F f i w = kdL T' c F f i w := by
  intro f
  induction f with
  | zero => intro i w; rfl
  | succ f ih => intro i w; rw [kdL, kdL, h, ih]
theorem kbL_congr {T T' : tT} {F nc : Nat} (h : T 6 = T' 6) (h2 : T 10 = T' 10) : ∀ (f c : Nat) (w : Nat → Int32), kbL T F nc f c w = kbL T' F nc f c w := by
  intro f
  induction f with
  | zero => intro c w; rfl
  | succ f ih => intro c w; rw [kbL, kbL, kcL_congr h, kdL_congr h2, h, ih]
theorem ktW_of {X : tXs} {F ln : Nat} {w : Nat → Int32} (h6 : T 6 = X.2.2.1) (h10 : T 10 = X.2.2.2) (hF : X.1 = nI F) (hF2 : F ≤ 80) : ktW T F X.2.1 ln w = kTU ln X w := by
  rw [kTU, ktW, ktW, hF, nI_clamp (by omega), kbL_congr (T := T) (T' := tXf X) (by rw [h6]; rfl) (by rw [h10]; rfl)]
end TP86
theorem nI_all (x : Int32) : ∃ n, x = nI n := ⟨x.toUInt32.toNat, by
  apply Int32.toBitVec_inj.mp
  simp [nI]⟩
