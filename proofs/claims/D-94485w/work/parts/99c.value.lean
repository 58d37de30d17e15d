set_option maxRecDepth 100000
section T99C
variable {g : fc_G} {l : Launch} {M : fc_M} {S : tT} {U : tU} {fx : Nat → Int32}
theorem stE_0 {v : Int32} {st : List Int32} : stE fx (nI 0, v) st = v :: st := if_pos (show (nI 0).toNatClampNeg = 0 by decide)
theorem stE_w {s : Nat} {v : Int32} {st : List Int32} (h0 : 0 < s) (h : s < 11) : stE fx (nI s, v) st = fx s :: st := by
  unfold stE
  simp only
  rw [nI_clamp (by omega), if_neg (by omega), if_pos h]
theorem stE_n {v b : Int32} {st : List Int32} : stE fx (nI 20, v) (b :: st) = (nI 1 - b) :: st := by
  unfold stE
  simp only
  rw [show (nI 20).toNatClampNeg = 20 by decide, if_neg (by decide), if_neg (by decide), if_neg (by decide), if_pos rfl]
theorem stE_p {v b : Int32} {st : List Int32} : stE fx (nI 16, v) (b :: st) = (b / v) :: st := by
  unfold stE
  simp only
  rw [show (nI 16).toNatClampNeg = 16 by decide, if_neg (by decide), if_neg (by decide), if_pos rfl]
theorem stE_2 {h : Nat} {v a b : Int32} {st : List Int32} (h1 : 11 ≤ h) (h2 : h ≠ 16) (h3 : h ≠ 20) (h4 : h < 2 ^ 31) : stE fx (nI h, v) (b :: a :: st) = bothN h a b :: st := by
  unfold stE
  simp only
  rw [nI_clamp h4, if_neg (by omega), if_neg (by omega), if_neg h2, if_neg h3]
theorem sgH_ok {s : Nat} (h : isSn s) : 11 ≤ sgH s ∧ sgH s ≠ 16 ∧ sgH s ≠ 20 ∧ sgH s < 2 ^ 31 := by
  rcases h with e | e | e | e | e | e | e | e <;> subst e <;> decide
/-- a term of the class answers what its steps leave on the pile -/
theorem tm_of (hF : LF g M) : ∀ (k r : Nat) (ps : tLs), tmI g M S k r ps → ∃ v, (∀ st, lev (hasF S) ps st = v :: st) ∧ ofC g l M S U k r v := by
  intro k
  induction k with
  | zero => intro r ps h; exact False.elim h
  | succ k ih =>
    intro r ps h
    obtain ⟨hr, h⟩ := h
    rcases h with ⟨hs, rfl⟩ | ⟨hs, j, v, hj, hv, rfl⟩ | ⟨hs, a, pa, ha, hA, rfl⟩ | ⟨hs, a, pa, b, pb, s, ha, hb, hsg, hA, hB, hps⟩
    · exact ⟨S r 0, fun st => stE_0 (fx := hasF S), hr, Or.inl ⟨hs, d_ofNumber hr hs⟩⟩
    · exact ⟨S 31 j, fun st => stE_w (fx := hasF S) (by omega) (by omega), hr, Or.inr (Or.inl ⟨hs, d_ofWord hF hr hs hj hv⟩)⟩
    · obtain ⟨v, e1, e2⟩ := ih a pa hA
      refine ⟨nI 1 - v, fun st => ?_, hr, Or.inr (Or.inr (Or.inr ⟨hs, d_ofNot hr hs ha e2⟩))⟩
      rw [lev_app, e1]
      exact stE_n (fx := hasF S) (v := nI 0)
    · obtain ⟨v1, e1, e2⟩ := ih a pa hA
      obtain ⟨v2, f1, f2⟩ := ih b pb hB
      rcases hps with ⟨rfl, v, hne, hpb, rfl⟩ | ⟨hsn, rfl⟩
      · have ev : v2 = v := by
          have h9 := f1 []
          rw [hpb] at h9
          have h10 : lev (hasF S) [(nI 0, v)] [] = [v] := stE_0 (fx := hasF S)
          rw [h10] at h9
          exact (List.cons.inj h9).1.symm
        subst ev
        refine ⟨v1 / v2, fun st => ?_, hr, Or.inr (Or.inr (Or.inl ⟨hs, d_ofPart hr hs ha hb e2 f2 hsg hne⟩))⟩
        rw [lev_app, e1]
        exact stE_p (fx := hasF S)
      · refine ⟨bothN (sgH s) v1 v2, fun st => ?_, hr, Or.inr (Or.inr (Or.inl ⟨hs, d_ofTwo hr hs ha hb e2 f2 hsg hsn⟩))⟩
        obtain ⟨g1, g2, g3, g4⟩ := sgH_ok hsn
        rw [lev_app, lev_app, e1, f1]
        exact stE_2 g1 g2 g3 g4
/-- the steps of a rule in the row, as a list -/
def stL (w : Nat → Int32) (r : Nat) : Nat → Nat → tLs
  | 0, _ => []
  | q + 1, i => (w (1510 + 820 * r + 2 * i), w (1510 + 820 * r + 2 * i + 1)) :: stL w r q (i + 1)
def rep (pl : Nat → Int32) (st : List Int32) : Prop := ∀ j x, st[j]? = some x → pl (st.length - 1 - j) = x
theorem rep_push {pl : Nat → Int32} {st : List Int32} {x : Int32} (h : rep pl st) : rep (up pl st.length x) (x :: st) := by
  intro j y hj
  cases j with
  | zero =>
    have e : x = y := Option.some.inj hj
    subst e
    show up pl st.length x (st.length + 1 - 1 - 0) = x
    rw [show st.length + 1 - 1 - 0 = st.length by omega, up_s]
  | succ j =>
    have hj2 : st[j]? = some y := hj
    have hl : j < st.length := by
      rcases Nat.lt_or_ge j st.length with q | q
      · exact q
      · rw [List.getElem?_eq_none q] at hj2; cases hj2
    show up pl st.length x (st.length + 1 - 1 - (j + 1)) = y
    rw [up_n (by omega), ← h j y hj2]
    congr 1
    omega
theorem rep_top {pl : Nat → Int32} {st : List Int32} {b x : Int32} (h : rep pl (b :: st)) : rep (up pl st.length x) (x :: st) := by
  have h2 : rep pl st := by
    intro j y hj
    have := h (j + 1) y hj
    have e : (b :: st).length - 1 - (j + 1) = st.length - 1 - j := by simp only [List.length_cons]; omega
    rw [e] at this
    exact this
  exact rep_push h2
theorem ev_lev {w : Nat → Int32} {r e : Nat} : ∀ (q i : Nat) (pl : Nat → Int32) (st : List Int32), i ≤ e → e < i + q → rep pl st → vR w r e q i st.length → ∃ st2, lev fx (stL w r (e - i) i) st = st2 ∧ rep (evW w r fx e q i pl st.length) st2 ∧ st2.length = 1 := by
  intro q
  induction q with
  | zero => intro i pl st h1 h2; omega
  | succ q ih =>
    intro i pl st h1 h2 hp hv
    rw [evW]
    by_cases hi : i < e
    · rw [if_pos hi]
      obtain ⟨⟨hs, hok⟩, ht, hv2⟩ := hv.1 hi
      rw [show e - i = (e - (i + 1)) + 1 by omega]
      have hstep : ∃ st1, stE fx (w (1510 + 820 * r + 2 * i), w (1510 + 820 * r + 2 * i + 1)) st = st1 ∧ rep (plS w r fx i pl st.length) st1 ∧ st1.length = tpS w r i st.length := by
        rw [hs]
        generalize hg : stS w r i = s at hok hs
        unfold plS tpS
        rw [hg]
        rcases hok with ⟨g1, g2⟩ | ⟨g1, g2, g3⟩ | ⟨g1, g2⟩ | ⟨g1, g2⟩
        · rw [if_pos (show s < 13 by omega), if_pos (show s < 13 by omega)]
          by_cases h0 : s = 0
          · subst h0
            rw [if_pos rfl]
            exact ⟨_, stE_0, rep_push hp, rfl⟩
          · rw [if_neg h0]
            exact ⟨_, stE_w (by omega) g1, rep_push hp, rfl⟩
        · subst g1
          rw [if_neg (by decide), if_pos rfl, if_neg (by decide), if_pos rfl]
          cases st with
          | nil => exact absurd g2 (by decide)
          | cons b st =>
            have hb := hp 0 b rfl
            have e1 : (b :: st).length - 1 - 0 = (b :: st).length - 1 := rfl
            rw [e1] at hb
            rw [hb]
            have e2 : (b :: st).length - 1 = st.length := by simp only [List.length_cons]; omega
            rw [e2]
            exact ⟨_, stE_p, rep_top hp, rfl⟩
        · subst g1
          rw [if_neg (by decide), if_neg (by decide), if_pos rfl, if_neg (by decide), if_neg (by decide), if_pos rfl]
          cases st with
          | nil => exact absurd g2 (by decide)
          | cons b st =>
            have hb := hp 0 b rfl
            have e1 : (b :: st).length - 1 - 0 = (b :: st).length - 1 := rfl
            rw [e1] at hb
            rw [hb]
            have e2 : (b :: st).length - 1 = st.length := by simp only [List.length_cons]; omega
            rw [e2]
            exact ⟨_, stE_n, rep_top hp, rfl⟩
        · have g3 : 13 ≤ s ∧ s ≠ 16 ∧ s ≠ 20 ∧ s < 2 ^ 31 := by
            rcases g1 with e | e | e | e | e | e | e | e <;> subst e <;> decide
          rw [if_neg (by omega), if_neg (by omega), if_neg (by omega), if_neg (by omega), if_neg (by omega), if_neg (by omega)]
          cases st with
          | nil => exact absurd g2 (by decide)
          | cons b st =>
            cases st with
            | nil => exact absurd g2 (Nat.lt_irrefl 1)
            | cons a st =>
              have hb := hp 0 b rfl
              have ha := hp 1 a rfl
              have e1 : (b :: a :: st).length - 1 - 0 = (b :: a :: st).length - 1 := rfl
              rw [e1] at hb
              rw [hb, ha]
              have e2 : (b :: a :: st).length - 1 - 1 = st.length := by simp only [List.length_cons]; omega
              rw [e2]
              have h3 : rep pl (a :: st) := by
                intro j y hj
                have := hp (j + 1) y hj
                have e : (b :: a :: st).length - 1 - (j + 1) = (a :: st).length - 1 - j := by simp only [List.length_cons]; omega
                rw [e] at this
                exact this
              refine ⟨_, stE_2 (by omega) g3.2.1 g3.2.2.1 g3.2.2.2, rep_top h3, ?_⟩
              simp only [List.length_cons]
              omega
      obtain ⟨st1, k1, k2, k3⟩ := hstep
      rw [← k3] at hv2 ⊢
      obtain ⟨st2, m1, m2, m3⟩ := ih (i + 1) _ st1 (by omega) (by omega) k2 hv2
      refine ⟨st2, ?_, m2, m3⟩
      show lev fx (stL w r (e - (i + 1)) (i + 1)) (stE fx _ st) = st2
      rw [k1]
      exact m1
    · rw [if_neg hi]
      have ht := hv.2 hi
      refine ⟨st, ?_, hp, ht⟩
      rw [show e - i = 0 by omega]
      rfl
/-- what the reference's steps come to -/
theorem cd_lev {w : Nat → Int32} {r b e : Nat} {v : Int32} (hbe : b ≤ e) (hv : vR w r e (e + 1) b 0) (h : ∀ st, lev fx (stL w r (e - b) b) st = v :: st) : cdW w r fx b e = v := by
  obtain ⟨st2, h1, h2, h3⟩ := ev_lev (fx := fx) (w := w) (r := r) (e := e) (e + 1) b (fun _ => 0) [] hbe (by omega) (fun j x hj => by cases hj) hv
  rw [h []] at h1
  subst h1
  have := h2 0 v rfl
  exact this
end T99C
