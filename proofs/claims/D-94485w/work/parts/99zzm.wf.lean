set_option maxRecDepth 100000
/-! ===== what the reader lays is in order: every step finds what it takes, one value is left; a test leaves 0 or 1 ===== -/
section T99ZZM
variable {E : tEn} {q : tTk}
def okP (p : Int32 × Int32) (top : Nat) : Prop := (∃ s, p.1 = nI s ∧ s ≤ 22 ∧ ((s < 11) ∨ (s = 16 ∧ 1 ≤ top ∧ ¬ p.2 = 0) ∨ (s = 20 ∧ 1 ≤ top) ∨ (isTwo s ∧ 2 ≤ top)))
def tpP (p : Int32 × Int32) (top : Nat) : Nat := if p.1.toNatClampNeg < 11 then top + 1 else if p.1.toNatClampNeg = 16 ∨ p.1.toNatClampNeg = 20 then top else top - 1
def vL : tLs → Nat → Prop
  | [], top => top = 1
  | p :: r, top => okP p top ∧ vL r (tpP p top)
def vp (ps : tLs) : Prop := ∀ top r, vL r (top + 1) → vL (ps ++ r) top
def okT (ps : tLs) : Prop := vp ps ∧ ∀ fx, ∃ v, ∀ st, lev fx ps st = v :: st
def okB (ps : tLs) : Prop := vp ps ∧ ∀ fx, ∃ v, (v = nI 0 ∨ v = nI 1) ∧ ∀ st, lev fx ps st = v :: st
theorem okB.t {ps : tLs} (h : okB ps) : okT ps := ⟨h.1, fun fx => by
  obtain ⟨v, -, h2⟩ := h.2 fx
  exact ⟨v, h2⟩⟩
theorem okB.isB {ps : tLs} (h : okB ps) : isB ps := by
  intro fx v hv
  obtain ⟨v2, h1, h2⟩ := h.2 fx
  have e := (hv []).symm.trans (h2 [])
  have e2 : v = v2 := by injection e
  rw [e2]; exact h1
theorem tpP_push {s : Nat} {v : Int32} {top : Nat} (h : s < 11) : tpP (nI s, v) top = top + 1 := by
  rw [tpP, nI_clamp (by omega), if_pos h]
theorem tpP_one {s : Nat} {v : Int32} {top : Nat} (h : s = 16 ∨ s = 20) : tpP (nI s, v) top = top := by
  rw [tpP, nI_clamp (by omega), if_neg (by omega), if_pos h]
theorem tpP_two {s : Nat} {v : Int32} {top : Nat} (h : isTwo s) : tpP (nI s, v) top = top - 1 := by
  have h2 : 12 < s ∧ s ≤ 22 ∧ s ≠ 16 ∧ s ≠ 20 := by unfold isTwo at h; omega
  rw [tpP, nI_clamp (by omega), if_neg (by omega), if_neg (by omega)]
theorem okT_num {v : Int32} : okT [(nI 0, v)] := ⟨fun top r h => ⟨⟨0, rfl, by decide, Or.inl (by decide)⟩, by rw [tpP_push (by decide)]; exact h⟩, fun fx => ⟨v, fun st => rfl⟩⟩
theorem okT_word {j : Nat} {v : Int32} (hj : j < 10) : okT [(nI (j + 1), v)] := ⟨fun top r h => ⟨⟨j + 1, rfl, by omega, Or.inl (by omega)⟩, by rw [tpP_push (by omega)]; exact h⟩, fun fx => ⟨fx (j + 1), fun st => by
  show stE fx (nI (j + 1), v) st = _
  unfold stE
  simp only [nI_clamp (show j + 1 < 2 ^ 31 by omega)]
  rw [if_neg (by omega), if_pos (by omega)]⟩⟩
theorem vp_one {ps : tLs} {s : Nat} {v : Int32} (h : vp ps) (hs : (s = 16 ∧ ¬ v = 0) ∨ s = 20) : vp (ps ++ [(nI s, v)]) := by
  intro top r hr
  rw [List.append_assoc]
  refine h top _ ⟨⟨s, rfl, by omega, ?_⟩, ?_⟩
  · rcases hs with ⟨h1, h2⟩ | h1
    · exact Or.inr (Or.inl ⟨h1, by omega, h2⟩)
    · exact Or.inr (Or.inr (Or.inl ⟨h1, by omega⟩))
  · rw [tpP_one (by omega)]; exact hr
theorem vp_two {pa pb : tLs} {s : Nat} {v : Int32} (h : vp pa) (h2 : vp pb) (hs : isTwo s) : vp (pa ++ pb ++ [(nI s, v)]) := by
  intro top r hr
  rw [List.append_assoc, List.append_assoc]
  refine h top _ (h2 (top + 1) _ ⟨⟨s, rfl, by unfold isTwo at hs; omega, Or.inr (Or.inr (Or.inr ⟨hs, by omega⟩))⟩, ?_⟩)
  rw [tpP_two hs]; exact hr
theorem lev_two {pa pb : tLs} {s : Nat} {u : Int32} {fx : Nat → Int32} {a b : Int32} (h : ∀ st, lev fx pa st = a :: st) (h2 : ∀ st, lev fx pb st = b :: st) (hs : isTwo s) (st : List Int32) : lev fx (pa ++ pb ++ [(nI s, u)]) st = bothN s a b :: st := by
  have h3 : 12 < s ∧ s ≤ 22 ∧ s ≠ 16 ∧ s ≠ 20 := by unfold isTwo at hs; omega
  rw [lev_app, lev_app, h, h2]
  show stE fx (nI s, u) (b :: a :: st) = _
  unfold stE
  simp only [nI_clamp (show s < 2 ^ 31 by omega)]
  rw [if_neg (by omega), if_neg (by omega), if_neg (by omega), if_neg (by omega)]
theorem okT_two {pa pb : tLs} {s : Nat} (h : okT pa) (h2 : okT pb) (hs : isTwo s) : okT (pa ++ pb ++ [(nI s, nI 0)]) := ⟨vp_two h.1 h2.1 hs, fun fx => by
  obtain ⟨a, ha⟩ := h.2 fx
  obtain ⟨b, hb⟩ := h2.2 fx
  exact ⟨_, lev_two ha hb hs⟩⟩
theorem okT_div {pa : tLs} {v : Int32} (h : okT pa) (hv : ¬ v = 0) : okT (pa ++ [(nI 16, v)]) := ⟨vp_one h.1 (Or.inl ⟨rfl, hv⟩), fun fx => by
  obtain ⟨a, ha⟩ := h.2 fx
  exact ⟨a / v, fun st => by rw [lev_app, ha]; rfl⟩⟩
theorem okB_cmp {pa pb : tLs} {s : Nat} (h : okT pa) (h2 : okT pb) (hs : s = 17 ∨ s = 18 ∨ s = 19) : okB (pa ++ pb ++ [(nI s, nI 0)]) := by
  have hs2 : isTwo s := by unfold isTwo; omega
  refine ⟨vp_two h.1 h2.1 hs2, fun fx => ?_⟩
  obtain ⟨a, ha⟩ := h.2 fx
  obtain ⟨b, hb⟩ := h2.2 fx
  refine ⟨_, ?_, lev_two ha hb hs2⟩
  unfold bothN
  rcases hs with rfl | rfl | rfl
  · rw [if_neg (by decide), if_neg (by decide), if_neg (by decide), if_pos rfl]
    split
    · exact Or.inr rfl
    · exact Or.inl rfl
  · rw [if_neg (by decide), if_neg (by decide), if_neg (by decide), if_neg (by decide), if_pos rfl]
    split
    · exact Or.inr rfl
    · exact Or.inl rfl
  · rw [if_neg (by decide), if_neg (by decide), if_neg (by decide), if_neg (by decide), if_neg (by decide), if_pos rfl]
    split
    · exact Or.inr rfl
    · exact Or.inl rfl
theorem okB_con {pa pb : tLs} {s : Nat} (h : okB pa) (h2 : okB pb) (hs : s = 21 ∨ s = 22) : okB (pa ++ pb ++ [(nI s, nI 0)]) := by
  have hs2 : isTwo s := by unfold isTwo; omega
  refine ⟨vp_two h.1 h2.1 hs2, fun fx => ?_⟩
  obtain ⟨a, ha0, ha⟩ := h.2 fx
  obtain ⟨b, hb0, hb⟩ := h2.2 fx
  refine ⟨_, ?_, lev_two ha hb hs2⟩
  rcases hs with rfl | rfl <;> rcases ha0 with rfl | rfl <;> rcases hb0 with rfl | rfl <;> decide
theorem okB_not {pa : tLs} (h : okB pa) : okB (pa ++ [(nI 20, nI 0)]) := ⟨vp_one h.1 (Or.inr rfl), fun fx => by
  obtain ⟨a, ha0, ha⟩ := h.2 fx
  refine ⟨nI 1 - a, ?_, fun st => by rw [lev_app, ha]; rfl⟩
  rcases ha0 with rfl | rfl <;> decide⟩
theorem pUn_ok {r : tTk × tLs} (h : pUn E q = .ok r) : okT r.2 := by
  unfold pUn at h
  split at h
  · cases h; exact okT_num
  · split at h
    · rename_i c
      cases h
      obtain ⟨m, m1, m2, m3⟩ := nI_between (by decide) c (by decide)
      have e : q.2.2.1 - nI 40 = nI (m - 41 + 1) := by rw [m3, pk_sub (by omega), show m - 40 = m - 41 + 1 by omega]
      show okT [(q.2.2.1 - nI 40, q.2.2.2)]
      rw [e]
      exact okT_word (by omega)
    · cases h
theorem pPL_ok : ∀ (k : Nat) (q : tTk) (ps : tLs) {r : tTk × tLs}, okT ps → pPL E k q ps = .ok r → okT r.2
  | 0, q, ps, r, hp, h => by cases h; exact hp
  | k + 1, q, ps, r, hp, h => by
    rw [pPL] at h
    split at h
    · split at h
      · split at h
        · cases h
        · rename_i c
          exact pPL_ok k _ _ (okT_div hp c) h
      · cases h
    · split at h
      · cases hu : pUn E (nxt E q) with
        | error e => rw [hu] at h; cases h
        | ok u =>
          rw [hu] at h
          exact pPL_ok k _ _ (okT_two hp (pUn_ok hu) (by unfold isTwo; decide)) h
      · cases h; exact hp
theorem pPr_ok {r : tTk × tLs} (h : pPr E q = .ok r) : okT r.2 := by
  unfold pPr at h
  cases hu : pUn E q with
  | error e => rw [hu] at h; cases h
  | ok u => rw [hu] at h; exact pPL_ok 401 _ _ (pUn_ok hu) h
theorem pSL_ok : ∀ (k : Nat) (q : tTk) (ps : tLs) {r : tTk × tLs}, okT ps → pSL E k q ps = .ok r → okT r.2
  | 0, q, ps, r, hp, h => by cases h; exact hp
  | k + 1, q, ps, r, hp, h => by
    rw [pSL] at h
    split at h
    · cases hu : pPr E (nxt E q) with
      | error e => rw [hu] at h; cases h
      | ok u => rw [hu] at h; exact pSL_ok k _ _ (okT_two hp (pPr_ok hu) (by unfold isTwo; decide)) h
    · split at h
      · cases hu : pPr E (nxt E q) with
        | error e => rw [hu] at h; cases h
        | ok u => rw [hu] at h; exact pSL_ok k _ _ (okT_two hp (pPr_ok hu) (by unfold isTwo; decide)) h
      · cases h; exact hp
theorem pSu_ok {r : tTk × tLs} (h : pSu E q = .ok r) : okT r.2 := by
  unfold pSu at h
  cases hu : pPr E q with
  | error e => rw [hu] at h; cases h
  | ok u => rw [hu] at h; exact pSL_ok 401 _ _ (pPr_ok hu) h
def okF (f : tTk → tRs) : Prop := ∀ (q : tTk) (r : tTk × tLs), f q = .ok r → okB r.2
theorem chL_ok {f : tTk → tRs} {tok : Int32} {s : Nat} (hs : s = 21 ∨ s = 22) (hf : okF f) : ∀ (k : Nat) (q : tTk) (ps : tLs) {r : tTk × tLs}, okB ps → chL E f tok (nI s) k q ps = .ok r → okB r.2
  | 0, q, ps, r, hp, h => by cases h; exact hp
  | k + 1, q, ps, r, hp, h => by
    rw [chL] at h
    split at h
    · cases hu : f (nxt E q) with
      | error e => rw [hu] at h; cases h
      | ok u => rw [hu] at h; exact chL_ok hs hf k _ _ (okB_con hp (hf _ _ hu) hs) h
    · cases h; exact hp
theorem chF_ok {f : tTk → tRs} {tok : Int32} {s : Nat} (hs : s = 21 ∨ s = 22) (hf : okF f) : okF (chF E f tok (nI s)) := by
  intro q r h
  unfold chF at h
  cases hu : f q with
  | error e => rw [hu] at h; cases h
  | ok u => rw [hu] at h; exact chL_ok hs hf 401 _ _ (hf _ _ hu) h
theorem pOne_ok : ∀ (k dep : Nat), k + dep = 9 → dep ≤ 8 → okF (pOne E k dep)
  | 0, dep, h1, h2 => by omega
  | k + 1, dep, h1, h2 => fun q r h => by
    rw [pOne] at h
    split at h
    · split at h
      · cases h
      · rename_i c c8
        cases hu : pOne E k (dep + 1) (nxt E q) with
        | error e => rw [hu] at h; cases h
        | ok u => rw [hu] at h; cases h; exact okB_not (pOne_ok k (dep + 1) (by omega) (by omega) _ _ hu)
    · split at h
      · split at h
        · cases h
        · rename_i c2 c c8
          cases hu : chF E (chF E (pOne E k (dep + 1)) (nI 5) (nI 21)) (nI 4) (nI 22) (nxt E q) with
          | error e => rw [hu] at h; cases h
          | ok u =>
            rw [hu] at h
            have h3 : pNd E (nI 141) u = .ok r := h
            unfold pNd at h3
            split at h3
            · cases h3
              have z := chF_ok (E := E) (tok := nI 4) (Or.inr rfl) (chF_ok (E := E) (tok := nI 5) (Or.inl rfl) (pOne_ok k (dep + 1) (by omega) (by omega))) _ _ hu
              exact z
            · cases h3
      · cases hu : pSu E q with
        | error e => rw [hu] at h; cases h
        | ok u =>
          rw [hu] at h
          have h3 : (if pHow u.1.2.2.1 = -1 then .error (nI 1, u.1.1) else bindR (pSu E (nxt E u.1)) (fun p2 => .ok (p2.1, u.2 ++ p2.2 ++ [(pHow u.1.2.2.1, nI 0)]))) = (.ok r : tRs) := h
          split at h3
          · cases h3
          · rename_i c3
            cases hu2 : pSu E (nxt E u.1) with
            | error e => rw [hu2] at h3; cases h3
            | ok u2 =>
              rw [hu2] at h3
              cases h3
              show okB (u.2 ++ u2.2 ++ [(pHow u.1.2.2.1, nI 0)])
              unfold pHow at c3 ⊢
              split
              · exact okB_cmp (pSu_ok hu) (pSu_ok hu2) (Or.inl rfl)
              · split
                · exact okB_cmp (pSu_ok hu) (pSu_ok hu2) (Or.inr (Or.inl rfl))
                · split
                  · exact okB_cmp (pSu_ok hu) (pSu_ok hu2) (Or.inr (Or.inr rfl))
                  · rename_i d1 d2 d3
                    exact absurd (by rw [if_neg d1, if_neg d2, if_neg d3]) c3
theorem pAn_ok {r : tTk × tLs} (h : pAn E 9 0 q = .ok r) : okB r.2 := chF_ok (Or.inr rfl) (chF_ok (Or.inl rfl) (pOne_ok 9 0 rfl (by decide))) _ _ h
end T99ZZM
