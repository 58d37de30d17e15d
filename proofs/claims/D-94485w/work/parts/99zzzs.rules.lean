set_option maxRecDepth 100000
/-! ===== a rule that was read, in the row ===== -/
section P20
variable {v w : Nat → Int32} {E : tEn} {q : tTk} {T : tT} {r ln n : Nat}
/-- the places of a rule in the row -/
def plc (r i : Nat) : Prop := i = 1300 + r ∨ (∃ j, j < 16 ∧ (i = 1310 + (16 * r + j) ∨ i = 1360 + (16 * r + j) ∨ i = 1410 + (16 * r + j) ∨ i = 1460 + (16 * r + j))) ∨ ∃ j, j < 820 ∧ i = 1510 + 820 * r + j
theorem klL_fr {x : Nat} (hx : ∀ j, j < ln → x ≠ 1310 + 16 * r + j ∧ x ≠ 1360 + 16 * r + j ∧ x ≠ 1410 + 16 * r + j ∧ x ≠ 1460 + 16 * r + j) : ∀ (f i : Nat) (w : Nat → Int32), klL T r ln f i w x = w x
  | 0, _, _ => rfl
  | f + 1, i, w => by
    rw [klL]
    by_cases e : i < ln
    · obtain ⟨a, b, c, d⟩ := hx i e
      rw [if_pos e, klL_fr hx f, up_n d, up_n c, up_n b, up_n a]
    · rw [if_neg e]
theorem klL_lo2 {x j : Nat} (hln : ln ≤ 16) (hr : r < 3) (hj : j < 50) (hx : x = 1310 + j ∨ x = 1360 + j ∨ x = 1410 + j ∨ x = 1460 + j) : ∀ (f i : Nat) (w : Nat → Int32), j < 16 * r + i → klL T r ln f i w x = w x
  | 0, _, _, _ => rfl
  | f + 1, i, w, h => by
    rw [klL]
    by_cases e : i < ln
    · rw [if_pos e, klL_lo2 hln hr hj hx f (i + 1) _ (by omega), up_n (by omega), up_n (by omega), up_n (by omega), up_n (by omega)]
    · rw [if_neg e]
theorem klL_in (hln : ln ≤ 16) (hr : r < 3) : ∀ (f i : Nat) (w : Nat → Int32), ln < i + f → ∀ j, i ≤ j → j < ln → klL T r ln f i w (1310 + 16 * r + j) = T 4 (4 * j) ∧ klL T r ln f i w (1360 + 16 * r + j) = T 4 (4 * j + 1) ∧ klL T r ln f i w (1410 + 16 * r + j) = T 4 (4 * j + 2) ∧ klL T r ln f i w (1460 + 16 * r + j) = T 4 (4 * j + 3)
  | 0, i, w, h, j, h1, h2 => by omega
  | f + 1, i, w, h, j, h1, h2 => by
    rw [klL, if_pos (by omega)]
    by_cases e : j = i
    · subst e
      have lo : ∀ (x : Nat) (w : Nat → Int32), (x = 1310 + (16 * r + j) ∨ x = 1360 + (16 * r + j) ∨ x = 1410 + (16 * r + j) ∨ x = 1460 + (16 * r + j)) → klL T r ln f (j + 1) w x = w x := fun x w hx => klL_lo2 hln hr (by omega) hx f (j + 1) w (by omega)
      rw [lo _ _ (by omega), lo _ _ (by omega), lo _ _ (by omega), lo _ _ (by omega)]
      refine ⟨?_, ?_, ?_, ?_⟩
      · rw [up_n (by omega), up_n (by omega), up_n (by omega), up_s]
      · rw [up_n (by omega), up_n (by omega), up_s]
      · rw [up_n (by omega), up_s]
      · rw [up_s]
    · exact klL_in hln hr f (i + 1) _ (by omega) j (by omega) h2
theorem ksL_fr {x : Nat} (hx : ∀ j, j < 2 * n → x ≠ 1510 + 820 * r + j) : ∀ (f i : Nat) (w : Nat → Int32), ksL T r n f i w x = w x
  | 0, _, _ => rfl
  | f + 1, i, w => by
    rw [ksL]
    by_cases e : i < 2 * n
    · rw [if_pos e, ksL_fr hx f, up_n (hx i e)]
    · rw [if_neg e]
theorem ksL_lo2 {x : Nat} : ∀ (f i : Nat) (w : Nat → Int32), x < 1510 + 820 * r + i → ksL T r n f i w x = w x
  | 0, _, _, _ => rfl
  | f + 1, i, w, h => by
    rw [ksL]
    by_cases e : i < 2 * n
    · rw [if_pos e, ksL_lo2 f (i + 1) _ (by omega), up_n (by omega)]
    · rw [if_neg e]
theorem ksL_in : ∀ (f i : Nat) (w : Nat → Int32), 2 * n < i + f → ∀ j, i ≤ j → j < 2 * n → ksL T r n f i w (1510 + 820 * r + j) = T 5 j
  | 0, i, w, h, j, h1, h2 => by omega
  | f + 1, i, w, h, j, h1, h2 => by
    rw [ksL, if_pos (by omega)]
    by_cases e : j = i
    · subst e; rw [ksL_lo2 _ _ _ (by omega), up_s]
    · exact ksL_in f (i + 1) _ (by omega) j (by omega) h2
variable {ls : List tLn} {ps : tLs}
theorem kr_fr {i : Nat} (hl : ls.length ≤ 16) (hp : ps.length ≤ 410) (h : i ≠ 1300 + r) (h2 : ∀ j, j < 16 → i ≠ 1310 + (16 * r + j) ∧ i ≠ 1360 + (16 * r + j) ∧ i ≠ 1410 + (16 * r + j) ∧ i ≠ 1460 + (16 * r + j)) (h3 : ∀ j, j < 820 → i ≠ 1510 + 820 * r + j) : kRU r ls ps w i = w i := by
  unfold kRU krW
  rw [ksL_fr (fun j hj => h3 j (by omega)), klL_fr (fun j hj => by have := h2 j (by omega); omega), up_n h]
theorem kr_lo {i : Nat} (hl : ls.length ≤ 16) (hp : ps.length ≤ 410) (h : i < 1300) : kRU r ls ps w i = w i := kr_fr hl hp (by omega) (fun j hj => by omega) (fun j hj => by omega)
theorem kr_oth {i r' : Nat} (hl : ls.length ≤ 16) (hp : ps.length ≤ 410) (hr : r < 3) (hr' : r' < 3) (hne : r' ≠ r) (h : plc r' i) : kRU r ls ps w i = w i := by
  rcases h with h | ⟨j, hj, h⟩ | ⟨j, hj, h⟩
  · exact kr_fr hl hp (by omega) (fun j hj => by omega) (fun j hj => by omega)
  · exact kr_fr hl hp (by omega) (fun j hj => by omega) (fun j hj => by omega)
  · exact kr_fr hl hp (by omega) (fun j hj => by omega) (fun j hj => by omega)
theorem kr_n (hr : r < 3) : kRU r ls ps w (1300 + r) = nI ls.length := by
  unfold kRU krW
  rw [ksL_fr (fun j hj => by omega), klL_fr (fun j hj => by omega), up_s]
theorem kr_ln {i : Nat} {l : tLn} (hl : ls.length ≤ 16) (hr : r < 3) (h : ls[i]? = some l) : kRU r ls ps w (1310 + (16 * r + i)) = l.1 ∧ kRU r ls ps w (1360 + (16 * r + i)) = nI l.2.1 ∧ kRU r ls ps w (1410 + (16 * r + i)) = nI l.2.2.1 ∧ kRU r ls ps w (1460 + (16 * r + i)) = nI l.2.2.2 := by
  have hi := (List.getElem?_eq_some_iff.mp h).1
  have hg : ls.getD i (0, 0, 0, 0) = l := by rw [List.getD_eq_getElem?_getD, h]; rfl
  obtain ⟨a, b, c, d⟩ := klL_in (T := tOf ls ps) (ln := ls.length) hl hr 17 0 (up w (1300 + r) (nI ls.length)) (by omega) i (by omega) hi
  unfold kRU krW
  rw [ksL_fr (fun j hj => by omega), ksL_fr (fun j hj => by omega), ksL_fr (fun j hj => by omega), ksL_fr (fun j hj => by omega), ← Nat.add_assoc, ← Nat.add_assoc, ← Nat.add_assoc, ← Nat.add_assoc, a, b, c, d]
  refine ⟨?_, ?_, ?_, ?_⟩
  · show (if 4 = 4 then (if 4 * i % 4 = 0 then _ else _) else _) = _
    rw [if_pos rfl, if_pos (by omega), show 4 * i / 4 = i by omega, hg]
  · show (if 4 = 4 then (if (4 * i + 1) % 4 = 0 then _ else if (4 * i + 1) % 4 = 1 then _ else _) else _) = _
    rw [if_pos rfl, if_neg (by omega), if_pos (by omega), show (4 * i + 1) / 4 = i by omega, hg]
  · show (if 4 = 4 then (if (4 * i + 2) % 4 = 0 then _ else if (4 * i + 2) % 4 = 1 then _ else if (4 * i + 2) % 4 = 2 then _ else _) else _) = _
    rw [if_pos rfl, if_neg (by omega), if_neg (by omega), if_pos (by omega), show (4 * i + 2) / 4 = i by omega, hg]
  · show (if 4 = 4 then (if (4 * i + 3) % 4 = 0 then _ else if (4 * i + 3) % 4 = 1 then _ else if (4 * i + 3) % 4 = 2 then _ else _) else _) = _
    rw [if_pos rfl, if_neg (by omega), if_neg (by omega), if_neg (by omega), show (4 * i + 3) / 4 = i by omega, hg]
theorem kr_st {i : Nat} {p : Int32 × Int32} (hp : ps.length ≤ 410) (h : ps[i]? = some p) : kRU r ls ps w (1510 + 820 * r + 2 * i) = p.1 ∧ kRU r ls ps w (1510 + 820 * r + 2 * i + 1) = p.2 := by
  have hi := (List.getElem?_eq_some_iff.mp h).1
  have hg : ps.getD i (0, 0) = p := by rw [List.getD_eq_getElem?_getD, h]; rfl
  unfold kRU krW
  rw [ksL_in 821 0 _ (by omega) (2 * i) (by omega) (by omega), show 1510 + 820 * r + 2 * i + 1 = 1510 + 820 * r + (2 * i + 1) by omega, ksL_in 821 0 _ (by omega) (2 * i + 1) (by omega) (by omega)]
  refine ⟨?_, ?_⟩
  · show (if 5 = 4 then _ else (if 2 * i % 2 = 0 then _ else _)) = _
    rw [if_neg (by decide), if_pos (by omega), show 2 * i / 2 = i by omega, hg]
  · show (if 5 = 4 then _ else (if (2 * i + 1) % 2 = 0 then _ else _)) = _
    rw [if_neg (by decide), if_neg (by omega), show (2 * i + 1) / 2 = i by omega, hg]
theorem kr_seg (hp : ps.length ≤ 410) : ∀ (m a : Nat), a + m ≤ ps.length → stL (kRU r ls ps w) r m a = seg ps a (a + m)
  | 0, a, h => by unfold seg; rw [show a + 0 - a = 0 by omega]; rfl
  | m + 1, a, h => by
    have ha : a < ps.length := by omega
    obtain ⟨e1, e2⟩ := kr_st (r := r) (ls := ls) (w := w) hp (i := a) (p := ps[a]) (List.getElem?_eq_getElem ha)
    rw [stL, kr_seg hp m (a + 1) (by omega), e1, e2]
    unfold seg
    rw [show a + 1 + m - (a + 1) = m by omega, show a + (m + 1) - a = m + 1 by omega, List.drop_eq_getElem_cons ha, List.take_succ_cons]
theorem stS_cg {k i : Nat} (h : w (1510 + 820 * k + 2 * i) = nI n) (hn : n ≤ 22) : stS w k i = n := by
  unfold stS
  rw [h, nI_clamp (by omega)]
/-- steps in order -/
theorem vL_R {k e : Nat} (he : e ≤ 410) : ∀ (m i top : Nat), i + m = e → top + m ≤ 411 → vL (stL w k m i) top → ∀ fuel, m < fuel → vR w k e fuel i top
  | 0, i, top, hi, ht, h, fuel, hf => by
    cases fuel with
    | zero => omega
    | succ fuel =>
      rw [vR]
      exact ⟨fun z => by omega, fun _ => h⟩
  | m + 1, i, top, hi, ht, h, fuel, hf => by
    cases fuel with
    | zero => omega
    | succ fuel =>
      rw [stL, vL] at h
      obtain ⟨⟨s, s1, s2, s3⟩, h2⟩ := h
      simp only at s1 s3
      have es : stS w k i = s := stS_cg s1 s2
      have ep : tpS w k i top = tpP (w (1510 + 820 * k + 2 * i), w (1510 + 820 * k + 2 * i + 1)) top := by
        unfold tpS tpP
        simp only [es, s1]
        rw [nI_clamp (by omega)]
        rcases s3 with s3 | s3 | s3 | s3
        · rw [if_pos (by omega), if_pos (by omega)]
        · rw [if_neg (by omega), if_pos (by omega), if_neg (by omega), if_pos (by omega)]
        · rw [if_neg (by omega), if_neg (by omega), if_pos (by omega), if_neg (by omega), if_pos (by omega)]
        · have := s3.1
          unfold isTwo at this
          rw [if_neg (by omega), if_neg (by omega), if_neg (by omega), if_neg (by omega), if_neg (by omega)]
      have tle : tpP (w (1510 + 820 * k + 2 * i), w (1510 + 820 * k + 2 * i + 1)) top ≤ top + 1 := by
        unfold tpP
        split
        · omega
        · split <;> omega
      rw [vR]
      refine ⟨fun _ => ⟨⟨by rw [es]; exact s1, ?_⟩, by rw [ep]; omega, ?_⟩, fun z => by omega⟩
      · rw [es]
        rcases s3 with s3 | s3 | s3 | s3
        · exact Or.inl ⟨s3, by omega⟩
        · exact Or.inr (Or.inl ⟨s3.1, by omega, s3.2.2⟩)
        · exact Or.inr (Or.inr (Or.inl ⟨s3.1, by omega⟩))
        · exact Or.inr (Or.inr (Or.inr ⟨s3.1, by omega⟩))
      · rw [ep]
        exact vL_R he m (i + 1) _ (by omega) (by omega) h2 fuel (by omega)
theorem vp_0 (h : vp ps) : vL ps 0 := by
  have := h 0 [] rfl
  rwa [List.append_nil] at this
/-- a text that was read, as the row has it -/
def lnO (ps : tLs) (l : tLn) : Prop := (l.2.1 ≤ l.2.2.1 ∧ l.2.2.1 ≤ l.2.2.2 ∧ l.2.2.2 ≤ ps.length) ∧ (¬ l.2.2.2 = l.2.2.1 → okB (seg ps l.2.2.1 l.2.2.2)) ∧ (¬ l.1 = nI 1 → okT (seg ps l.2.1 l.2.2.1))
theorem kr_fmt {i : Nat} {l : tLn} (hl : ls.length ≤ 16) (hp : ps.length ≤ 410) (hr : r < 3) (h : ls[i]? = some l) (ho : lnO ps l) : frW (kRU r ls ps w) r i = l.2.1 ∧ miW (kRU r ls ps w) r i = l.2.2.1 ∧ toW (kRU r ls ps w) r i = l.2.2.2 := by
  obtain ⟨a, b, c, d⟩ := kr_ln (ps := ps) (w := w) hl hr h
  obtain ⟨⟨o1, o2, o3⟩, -⟩ := ho
  unfold frW miW toW
  rw [b, c, d, nI_clamp (by omega), nI_clamp (by omega), nI_clamp (by omega)]
  exact ⟨rfl, rfl, rfl⟩
theorem kr_RV (hl : ls.length ≤ 16) (hp : ps.length ≤ 410) (hr : r < 3) (ho : ∀ (i : Nat) (l : tLn), ls[i]? = some l → lnO ps l) : RV (kRU r ls ps w) r ls.length := by
  refine ⟨kr_n hr, hl, fun i hi => ?_⟩
  have h := List.getElem?_eq_getElem hi
  generalize ls[i] = l at h
  have hoi := ho i l h
  obtain ⟨a, b, c, d⟩ := kr_ln (ps := ps) (w := w) hl hr h
  obtain ⟨f1, f2, f3⟩ := kr_fmt (w := w) hl hp hr h hoi
  obtain ⟨⟨o1, o2, o3⟩, o4, o5⟩ := hoi
  rw [f1, f2, f3]
  refine ⟨b, c, d, o1, o2, by omega, fun z => ?_, fun z => ?_⟩
  · have hv := vp_0 (o4 z).1
    have hs := kr_seg (r := r) (ls := ls) (w := w) hp (l.2.2.2 - l.2.2.1) l.2.2.1 (by omega)
    rw [show l.2.2.1 + (l.2.2.2 - l.2.2.1) = l.2.2.2 by omega] at hs
    rw [← hs] at hv
    exact vL_R (by omega) _ _ 0 (by omega) (by omega) hv _ (by omega)
  · have hv := vp_0 (o5 (by rw [← a]; exact z)).1
    have hs := kr_seg (r := r) (ls := ls) (w := w) hp (l.2.2.1 - l.2.1) l.2.1 (by omega)
    rw [show l.2.1 + (l.2.2.1 - l.2.1) = l.2.2.1 by omega] at hs
    rw [← hs] at hv
    exact vL_R (by omega) _ _ 0 (by omega) (by omega) hv _ (by omega)
/-- rules see their own places alone -/
theorem vR_loc {k e : Nat} (he : e ≤ 410) (h : ∀ i, plc k i → v i = w i) : ∀ (q i top : Nat), vR w k e q i top → vR v k e q i top
  | 0, _, _, _ => trivial
  | q + 1, i, top, hv => by
    rw [vR] at hv ⊢
    refine ⟨fun z => ?_, hv.2⟩
    have e0 : v (1510 + 820 * k + 2 * i) = w (1510 + 820 * k + 2 * i) := h _ (Or.inr (Or.inr ⟨2 * i, by omega, rfl⟩))
    have e1 : v (1510 + 820 * k + 2 * i + 1) = w (1510 + 820 * k + 2 * i + 1) := h _ (Or.inr (Or.inr ⟨2 * i + 1, by omega, by omega⟩))
    have es : stS v k i = stS w k i := by unfold stS; rw [e0]
    have et : tpS v k i top = tpS w k i top := by unfold tpS; rw [es]
    obtain ⟨a, b, c⟩ := hv.1 z
    refine ⟨?_, by rw [et]; exact b, by rw [et]; exact vR_loc he h q _ _ c⟩
    unfold okS at a ⊢
    rw [es, e0, e1]
    exact a
theorem fmt_loc {k i : Nat} (hi : i < 16) (h : ∀ i, plc k i → v i = w i) : (v (1310 + (16 * k + i)) = w (1310 + (16 * k + i)) ∧ v (1360 + (16 * k + i)) = w (1360 + (16 * k + i)) ∧ v (1410 + (16 * k + i)) = w (1410 + (16 * k + i)) ∧ v (1460 + (16 * k + i)) = w (1460 + (16 * k + i))) ∧ frW v k i = frW w k i ∧ miW v k i = miW w k i ∧ toW v k i = toW w k i := by
  have a := h (1310 + (16 * k + i)) (Or.inr (Or.inl ⟨i, hi, Or.inl rfl⟩))
  have b := h (1360 + (16 * k + i)) (Or.inr (Or.inl ⟨i, hi, Or.inr (Or.inl rfl)⟩))
  have c := h (1410 + (16 * k + i)) (Or.inr (Or.inl ⟨i, hi, Or.inr (Or.inr (Or.inl rfl))⟩))
  have d := h (1460 + (16 * k + i)) (Or.inr (Or.inl ⟨i, hi, Or.inr (Or.inr (Or.inr rfl))⟩))
  refine ⟨⟨a, b, c, d⟩, ?_, ?_, ?_⟩
  · unfold frW; rw [b]
  · unfold miW; rw [c]
  · unfold toW; rw [d]
theorem nlW_loc {k : Nat} (h : ∀ i, plc k i → v i = w i) : nlW v k = nlW w k := by unfold nlW wN; rw [h _ (Or.inl rfl)]
theorem RV_loc {k nl : Nat} (h : ∀ i, plc k i → v i = w i) (hR : RV w k nl) : RV v k nl := by
  obtain ⟨a, b, c⟩ := hR
  refine ⟨(h _ (Or.inl rfl)).trans a, b, fun i hi => ?_⟩
  obtain ⟨⟨d1, d2, d3, d4⟩, e1, e2, e3⟩ := fmt_loc (show i < 16 by omega) h
  rw [d1, d2, d3, d4, e1, e2, e3]
  obtain ⟨c1, c2, c3, c4, c5, c6, c7, c8⟩ := c i hi
  exact ⟨c1, c2, c3, c4, c5, c6, fun z => vR_loc c6 h _ _ _ (c7 z), fun z => vR_loc (by omega) h _ _ _ (c8 z)⟩
theorem stL_loc {k : Nat} (h : ∀ i, plc k i → v i = w i) : ∀ (m a : Nat), a + m ≤ 410 → stL v k m a = stL w k m a
  | 0, _, _ => rfl
  | m + 1, a, ha => by
    rw [stL, stL, h (1510 + 820 * k + 2 * a) (Or.inr (Or.inr ⟨2 * a, by omega, rfl⟩)), h (1510 + 820 * k + 2 * a + 1) (Or.inr (Or.inr ⟨2 * a + 1, by omega, by omega⟩)), stL_loc h m (a + 1) (by omega)]
end P20
section P21
variable {v w : Nat → Int32} {E : tEn} {q : tTk}
theorem pCo_n {r : tTk × tLs} (hv : tkv E.2.2 q) (h : pCo E q = .ok r) : tkv E.2.2 r.1 ∧ r.2.length + q.1 ≤ r.1.1 := by
  have h1 := nxt_v hv
  have h2 := tkv_le hv
  unfold pCo at h
  split at h
  · have := pSu_n h1.1 h
    exact ⟨(pSu_v _ _ h1.1 h).1, by omega⟩
  · cases h
    exact ⟨h1.1, by show 0 + q.1 ≤ (nxt E q).1; omega⟩
theorem pWh_n {r : tTk × tLs} (hv : tkv E.2.2 q) (h : pWh E q = .ok r) : tkv E.2.2 r.1 ∧ r.2.length + q.1 ≤ r.1.1 := by
  have h1 := nxt_v hv
  have h2 := tkv_le hv
  unfold pWh at h
  split at h
  · have := pAn_n h1.1 h
    exact ⟨(chF_v (chF_v (pOne_v 9 0)) _ _ h1.1 h).1, by omega⟩
  · cases h
    exact ⟨hv, by show 0 + q.1 ≤ q.1; omega⟩
theorem pLn_n {ln n : Nat} {x : tTk × tLn × tLs} (hv : tkv E.2.2 q) (h : pLn E q ln n = .ok x) : tkv E.2.2 x.1 ∧ x.2.2.length + q.1 ≤ x.1.1 := by
  unfold pLn at h
  split at h
  · split at h
    · cases h
    · cases hc : pCo E q with
      | error e => rw [bindX_e hc] at h; cases h
      | ok p =>
        rw [hc] at h
        simp only [bindX] at h
        obtain ⟨a1, a2⟩ := pCo_n hv hc
        cases hw : pWh E p.1 with
        | error e => rw [hw] at h; cases h
        | ok p2 =>
          rw [hw] at h
          simp only at h
          obtain ⟨b1, b2⟩ := pWh_n a1 hw
          split at h
          · cases h
            have c1 := nxt_v b1
            have c2 := tkv_le b1
            refine ⟨c1.1, ?_⟩
            show (p.2 ++ p2.2).length + q.1 ≤ (nxt E p2.1).1
            rw [List.length_append]
            omega
          · cases h
  · cases h
theorem pRL_n : ∀ (k : Nat) (q : tTk) (ls : List tLn) (ps : tLs) {z : List tLn × tLs}, tkv E.2.2 q → ps.length ≤ q.1 → pRL E k q ls ps = .ok z → z.2.length ≤ E.2.2
  | 0, q, ls, ps, z, hv, hl, h => by
    cases h
    have := hv.1
    have := hv.2.1
    show ps.length ≤ _
    omega
  | k + 1, q, ls, ps, z, hv, hl, h => by
    by_cases c : q.2.2.1 = 0
    · rw [pRL_0 c] at h
      cases h
      have := hv.1
      have := hv.2.1
      show ps.length ≤ _
      omega
    · cases hp : pLn E q ls.length ps.length with
      | error e => rw [pRL_e c hp] at h; cases h
      | ok x =>
        rw [pRL_k c hp] at h
        obtain ⟨a1, a2⟩ := pLn_n hv hp
        exact pRL_n k x.1 _ _ a1 (by rw [List.length_append]; omega) h
end P21
