set_option maxRecDepth 100000
/-! ===== multianewarray of two dimensions ===== -/
section FCGRD
variable {p : Program} {l : Launch} {e : Env} {R : Room} {s : State} {m : MethodId} {args : Array Value} {below : List Frame} {meth : Method} {c : Code} {T : State} {locs : List Loc} {cells slots : Nat}
/-- the outer row when i inner ones stand -/
def gdF (h i : Nat) : Nat → Value := fun j => if j < i then .ref (h + 1 + j) else .null
theorem gdF_s {h i : Nat} : updV (gdF h i) i (.ref (h + 1 + i)) = gdF h (i + 1) := by
  funext j
  show (if j = i then Value.ref (h + 1 + i) else if j < i then .ref (h + 1 + j) else .null) = (if j < i + 1 then .ref (h + 1 + j) else .null)
  by_cases e : j = i
  · subst e; rw [if_pos rfl, if_pos (by omega)]
  · rw [if_neg e]
    by_cases e2 : j < i
    · rw [if_pos e2, if_pos (by omega)]
    · rw [if_neg e2, if_neg (by omega)]
def gdS (T : State) (cA cR : ClassId) (n k : Nat) (dv : Value) : Nat → State
  | 0 => T.pushCell (arrV cA n (gdF T.heap.size 0))
  | i + 1 => ((gdS T cA cR n k dv i).pushCell (arrV cR k (fun _ => dv))).setCell T.heap.size (arrV cA n (gdF T.heap.size (i + 1)))
theorem gd_f (T : State) (cA cR : ClassId) (n k : Nat) (dv : Value) : ∀ i, (gdS T cA cR n k dv i).heap.size = T.heap.size + 1 + i ∧ (gdS T cA cR n k dv i).heap[T.heap.size]? = some (arrV cA n (gdF T.heap.size i)) ∧ (gdS T cA cR n k dv i).vm = T.vm ∧ (gdS T cA cR n k dv i).slotsUsed = T.slotsUsed + n + i * k
  | 0 => ⟨by simp [gdS], by simp [gdS], rfl, by simp [gdS, arrV_size]⟩
  | i + 1 => by
    obtain ⟨h1, h2, h3, h4⟩ := gd_f T cA cR n k dv i
    have hq : ((gdS T cA cR n k dv i).pushCell (arrV cR k (fun _ => dv))).heap[T.heap.size]? = some (arrV cA n (gdF T.heap.size i)) := by
      have hlt : T.heap.size < (gdS T cA cR n k dv i).heap.size := by rw [h1]; omega
      rw [State.heap_pushCell_of_lt (h := hlt)]; exact h2
    refine ⟨?_, State.heap_setCell_self hq, ?_, ?_⟩
    · show (((gdS T cA cR n k dv i).pushCell _).setCell _ _).heap.size = _
      simp [State.setCell, h1]; omega
    · show (((gdS T cA cR n k dv i).pushCell _).setCell _ _).vm = _
      simp [h3]
    · show (((gdS T cA cR n k dv i).pushCell _).setCell _ _).slotsUsed = _
      simp [h4, arrV_size, Nat.succ_mul]; omega
theorem gd_t (T : State) (f : JFrame) (cA cR : ClassId) (n k : Nat) (dv : Value) : ∀ i, gdS (T.setTop f) cA cR n k dv i = (gdS T cA cR n k dv i).setTop f
  | 0 => rfl
  | i + 1 => by
    rw [gdS, gdS, gd_t T f cA cR n k dv i, State.heap_setTop, State.pushCell_setTop, State.setCell_setTop]
theorem gd_X (X : Stand p l e R s m args below meth c T locs cells slots) (cA cR : ClassId) (n k : Nat) (dv : Value) : ∀ i, Stand p l e R s m args below meth c (gdS T cA cR n k dv i) (locs ++ (List.range i).map fun j => ⟨T.heap.size, j⟩) (cells + 1 + i) (slots + n + i * k)
  | 0 => by
    have h := X.pushed (arrV cA n (gdF T.heap.size 0))
    rw [arrV_size] at h
    rw [Nat.zero_mul, Nat.add_zero, Nat.add_zero]
    rw [show (locs ++ (List.range 0).map fun j => (⟨T.heap.size, j⟩ : Loc)) = locs by simp]
    exact h
  | i + 1 => by
    have Xi := gd_X X cA cR n k dv i
    obtain ⟨h1, h2, -, -⟩ := gd_f T cA cR n k dv i
    have hq : ((gdS T cA cR n k dv i).pushCell (arrV cR k (fun _ => dv))).heap[T.heap.size]? = some (arrV cA n (gdF T.heap.size i)) := by
      have hlt : T.heap.size < (gdS T cA cR n k dv i).heap.size := by rw [h1]; omega
      rw [State.heap_pushCell_of_lt (h := hlt)]; exact h2
    have h := (Xi.pushed (arrV cR k (fun _ => dv))).stored hq i (.ref (T.heap.size + 1 + i))
    rw [arrV_size, arrV_store, gdF_s] at h
    have e1 : (locs ++ (List.range (i + 1)).map fun j => (⟨T.heap.size, j⟩ : Loc)) = (locs ++ (List.range i).map fun j => (⟨T.heap.size, j⟩ : Loc)) ++ [⟨T.heap.size, i⟩] := by
      rw [List.range_succ, List.map_append, List.append_assoc]; rfl
    have e2 : slots + n + (i + 1) * k = slots + n + i * k + k := by rw [Nat.succ_mul]; omega
    rw [e1, e2]
    exact h
theorem gd_na {E : CtlPost} {d : Bool} {acts : List Action} {u : State} {cA comp : ClassId} {k : Class} {ty : FieldType} {len : Nat} {dv : Value} (hk : u.vm.classes[cA]? = some k) (hkind : k.kind = .array comp ty) (hl : ¬ len > e.platform.arrayLengthLimit) (hh : ¬ len * componentBytes ty > e.platform.maxHeapBytes) (hft : fits ty dv = true) (hdf : dv.isDefault = true) (h1 : u.heap.size < e.platform.maxCells) (h2 : u.slotsUsed + len ≤ e.platform.maxSlots) {Q : Addr → Pre} (hq : Q u.heap.size d acts (u.pushCell (arrV cA len (fun _ => dv)))) : wp (Jvm.newArray cA len dv) Q E e d acts u := by
  have hs : ∀ i v, (Array.replicate len dv)[i]? = some v → u.fitsSlot cA .none i v = true := by
    intro i v hv
    rw [Array.getElem?_replicate] at hv
    split at hv
    · cases hv
      simp [State.fitsSlot, State.slotType?, hk, hkind, hft]
    · cases hv
  have ha : allocActs (Array.replicate len dv) u.heap.size acts = acts := by
    unfold allocActs
    rw [if_pos]
    rw [Array.all_replicate]
    split <;> simp [hdf]
  rw [← arrV_new] at hq
  simp only [Jvm.newArray, Jvm.arrayFits, wp_bind', W.ask, W.ite, hl, if_false, wp_pure', W.theClass, hk, hkind, hh, W.alloc, W.stop, Option.some.injEq, exists_eq_left', Array.size_replicate, ha]
  rw [if_neg (by omega)]
  exact ⟨h1, h2, hs, hq⟩
theorem gd_mk {E : CtlPost} {d : Bool} {acts : List Action} {u : State} {cA cR comp : ClassId} {kA kR : Class} {tA ty : FieldType} {n k : Int32} (hA : u.vm.classes[cA]? = some kA) (hAk : kA.kind = .array cR tA) (hA1 : ∀ v : Value, (v = .null ∨ ∃ a, v = .ref a) → fits tA v = true) (hR : u.vm.classes[cR]? = some kR) (hRk : kR.kind = .array comp ty) (hn : ¬ n < 0) (hk : ¬ k < 0)
    (hl1 : ¬ n.toNatClampNeg > e.platform.arrayLengthLimit) (hh1 : ¬ n.toNatClampNeg * componentBytes tA > e.platform.maxHeapBytes) (hl2 : ¬ k.toNatClampNeg > e.platform.arrayLengthLimit) (hh2 : ¬ k.toNatClampNeg * componentBytes ty > e.platform.maxHeapBytes) (hft : fits ty (defaultValue ty) = true) (hdf : (defaultValue ty).isDefault = true)
    (hc : u.heap.size + 1 + n.toNatClampNeg ≤ e.platform.maxCells) (hs : u.slotsUsed + n.toNatClampNeg + n.toNatClampNeg * k.toNatClampNeg ≤ e.platform.maxSlots) {Q : Addr → Pre} (hq : ∀ d' acts', Q u.heap.size d' acts' (gdS u cA cR n.toNatClampNeg k.toNatClampNeg (defaultValue ty) n.toNatClampNeg)) : wp (Op.multianewarray.make cA [n, k]) Q E e d acts u := by
  have e0 : gdF u.heap.size 0 = fun _ => Value.null := funext fun j => if_neg (Nat.not_lt_zero j)
  have hno : ([k].find? (· < 0)) = none := by simp [hk]
  rw [Op.multianewarray.make]
  simp only [wp_bind', W.ite, hn, if_false, wp_pure', W.theClass, hA, hAk, Option.some.injEq, exists_eq_left']
  refine gd_na hA hAk hl1 hh1 (hA1 _ (Or.inl rfl)) rfl (by omega) (by have := Nat.zero_le (n.toNatClampNeg * k.toNatClampNeg); omega) ?_
  rw [← e0]
  simp only [hno]
  rw [ite_self, wp_bind', Std.Legacy.Range.forIn_eq_forIn_range']
  have hz : ([:n.toNatClampNeg] : Std.Legacy.Range).size = n.toNatClampNeg := by simp [Std.Legacy.Range.size]
  rw [hz]
  show wp (forIn (List.range' 0 n.toNatClampNeg 1) PUnit.unit _) _ E e d acts _
  refine wp_forIn_inv (fun rest u' => ∃ i, i ≤ n.toNatClampNeg ∧ rest = List.range' i (n.toNatClampNeg - i) ∧ u' = gdS u cA cR n.toNatClampNeg k.toNatClampNeg (defaultValue ty) i) _ _ ⟨0, Nat.zero_le _, rfl, rfl⟩ ?_ ?_
  · intro x rest u' d' acts' Q' hI hnx
    obtain ⟨i, hi, hl, hu⟩ := hI
    subst hu
    have hlt : i < n.toNatClampNeg := by
      rcases Nat.lt_or_ge i n.toNatClampNeg with z | z
      · exact z
      · rw [show n.toNatClampNeg - i = 0 by omega] at hl; cases hl
    rw [show n.toNatClampNeg - i = (n.toNatClampNeg - (i + 1)) + 1 by omega, List.range'_succ] at hl
    have hx := (List.cons.inj hl).1
    have hr := (List.cons.inj hl).2
    subst hx
    obtain ⟨f1, f2, f3, f4⟩ := gd_f u cA cR n.toNatClampNeg k.toNatClampNeg (defaultValue ty) x
    have hm : x * k.toNatClampNeg + k.toNatClampNeg ≤ n.toNatClampNeg * k.toNatClampNeg := by
      have := Nat.mul_le_mul_right k.toNatClampNeg (show x + 1 ≤ n.toNatClampNeg from hlt)
      rw [Nat.succ_mul] at this
      exact this
    have hz0 : u.heap.size < (gdS u cA cR n.toNatClampNeg k.toNatClampNeg (defaultValue ty) x).heap.size := by rw [f1]; omega
    rw [wp_bind', Op.multianewarray.make]
    simp only [wp_bind', W.ite, hk, if_false, wp_pure', W.theClass, f3, hR, hRk, Option.some.injEq, exists_eq_left']
    refine gd_na (by rw [f3]; exact hR) hRk hl2 hh2 hft hdf (by rw [f1]; omega) (by rw [f4]; omega) ?_
    simp only [wp_bind', W.writeLoc, wp_pure']
    refine ⟨arrV cA n.toNatClampNeg (gdF u.heap.size x), by rw [State.heap_pushCell_of_lt (h := hz0)]; exact f2, by simp [arrV], by rw [arrV_size]; exact hlt, ?_, hnx _ _ _ ⟨x + 1, hlt, hr, ?_⟩⟩
    · simp [arrV, State.fitsSlot, State.slotType?, f3, hA, hAk, hA1 _ (Or.inr ⟨_, rfl⟩)]
    · rw [arrV_store, f1, gdF_s]; rfl
  · intro u' d' acts' hI
    obtain ⟨i, hi, hl, hu⟩ := hI
    subst hu
    have hin : i = n.toNatClampNeg := by
      rcases Nat.lt_or_ge i n.toNatClampNeg with z | z
      · rw [show n.toNatClampNeg - i = (n.toNatClampNeg - (i + 1)) + 1 by omega, List.range'_succ] at hl; cases hl
      · omega
    subst hin
    simp only [wp_pure']
    exact hq _ _
end FCGRD
