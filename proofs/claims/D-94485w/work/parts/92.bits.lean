set_option maxRecDepth 100000
/-! the class's longs as sets of floors -/
def bt (x : Int64) (f : Nat) : Bool := x.toBitVec.getLsbD f
abbrev sa (f : Nat) : Int64 := (nI f).toInt64 &&& 63
theorem sa_dec : ∀ f : Fin 64, ((sa f.val).toBitVec.smod 64).toNat = f.val := by decide +kernel
theorem sa_n {f : Nat} (h : f < 64) : ((sa f).toBitVec.smod 64).toNat = f := sa_dec ⟨f, h⟩
theorem one_dec : ∀ f i : Fin 64, bt (1 <<< sa f.val) i.val = decide (i.val = f.val) := by decide +kernel
theorem neg_dec : ∀ f i : Fin 64, bt ((-1) <<< sa f.val) i.val = decide (f.val ≤ i.val) := by decide +kernel
theorem low_dec : ∀ f i : Fin 64, bt (1 <<< sa f.val - 1) i.val = decide (i.val < f.val) := by decide +kernel
theorem bt_ge {x : Int64} {i : Nat} (h : 64 ≤ i) : bt x i = false := BitVec.getLsbD_of_ge _ _ h
theorem bt_and {x z : Int64} {i : Nat} : bt (x &&& z) i = (bt x i && bt z i) := by simp [bt]
theorem bt_or {x z : Int64} {i : Nat} : bt (x ||| z) i = (bt x i || bt z i) := by simp [bt]
theorem bt_xor {x z : Int64} {i : Nat} : bt (x ^^^ z) i = (bt x i ^^ bt z i) := by simp [bt]
theorem bt_ext {x z : Int64} (h : ∀ i, i < 64 → bt x i = bt z i) : x = z := Int64.toBitVec_inj.mp (BitVec.eq_of_getLsbD_eq h)
theorem bt_0 {i : Nat} : bt 0 i = false := by simp [bt]
theorem bt_1 {i : Nat} : bt 1 i = decide (i = 0) := by simp [bt]
theorem bt_shr {x : Int64} {f : Nat} (hf : f < 64) : bt (x >>> sa f) 0 = bt x f := by
  show (x >>> sa f).toBitVec.getLsbD 0 = x.toBitVec.getLsbD f
  rw [Int64.toBitVec_shiftRight, BitVec.sshiftRight_eq', sa_n hf, BitVec.getLsbD_sshiftRight]
  simp [hf]
theorem bt_pick {x : Int64} {f : Nat} (hf : f < 64) : (x >>> sa f) &&& 1 = if bt x f = true then 1 else 0 := by
  apply bt_ext
  intro i hi
  rw [bt_and, bt_1]
  by_cases h0 : i = 0
  · subst h0
    rw [bt_shr hf]
    cases bt x f <;> decide
  · have e : decide (i = 0) = false := decide_eq_false h0
    rw [e, Bool.and_false]
    cases bt x f
    · simp [bt_0]
    · simp [bt_1, h0]
theorem lcm_pick {x : Int64} {f : Nat} (hf : f < 64) : lcm ((x >>> sa f) &&& 1) 1 = if bt x f = true then 0 else -1 := by
  rw [bt_pick hf]
  cases bt x f <;> decide
theorem lcm_0 {x : Int64} : lcm x 0 = 0 ↔ x = 0 := by
  unfold lcm
  by_cases h : (0 : Int64) < x
  · rw [if_pos h]
    refine ⟨fun e => absurd e (by decide), fun e => ?_⟩
    subst e
    exact absurd h (by decide)
  · rw [if_neg h]
    by_cases h2 : x = 0
    · rw [if_pos h2]
      exact ⟨fun _ => h2, fun _ => rfl⟩
    · rw [if_neg h2]
      exact ⟨fun e => absurd e (by decide), fun e => absurd e h2⟩
theorem bt_ne {x : Int64} : x ≠ 0 ↔ ∃ i, i < 64 ∧ bt x i = true := by
  constructor
  · intro h
    apply Classical.byContradiction
    intro h2
    refine h (bt_ext fun i hi => ?_)
    rw [bt_0]
    cases e : bt x i with
    | false => rfl
    | true => exact absurd ⟨i, hi, e⟩ h2
  · intro h e
    obtain ⟨i, hi, hb⟩ := h
    rw [e, bt_0] at hb
    cases hb
def b2 (x z : Int64) (f : Nat) : Bool := if f < 64 then bt x f else bt z (f - 64)
theorem b2_lo {x z : Int64} {f : Nat} (h : f < 64) : b2 x z f = bt x f := if_pos h
theorem b2_hi {x z : Int64} {f : Nat} (h : ¬ f < 64) : b2 x z f = bt z (f - 64) := if_neg h
/-- a floor more; a floor turned -/
def amU (U : tU) (a k f : Nat) : tU := if f < 64 then tuL U a k (U a k ||| (1 <<< sa f)) else tuL U a (k + 1) (U a (k + 1) ||| (1 <<< sa (f - 64)))
def tnU (U : tU) (a k f : Nat) : tU := if f < 64 then tuL U a k (U a k ^^^ (1 <<< sa f)) else tuL U a (k + 1) (U a (k + 1) ^^^ (1 <<< sa (f - 64)))
theorem tuL_s {U : tU} {a k : Nat} {x : Int64} : tuL U a k x a k = x := if_pos ⟨rfl, rfl⟩
theorem tuL_n {U : tU} {a k b j : Nat} {x : Int64} (h : ¬ (b = a ∧ j = k)) : tuL U a k x b j = U b j := if_neg h
theorem one_bt {f i : Nat} (hf : f < 64) : bt (1 <<< sa f) i = decide (i = f) := by
  by_cases hi : i < 64
  · exact one_dec ⟨f, hf⟩ ⟨i, hi⟩
  · rw [bt_ge (by omega)]
    exact (decide_eq_false (by omega)).symm
theorem neg_bt {f i : Nat} (hf : f < 64) (hi : i < 64) : bt ((-1) <<< sa f) i = decide (f ≤ i) := neg_dec ⟨f, hf⟩ ⟨i, hi⟩
theorem low_bt {f i : Nat} (hf : f < 64) (hi : i < 64) : bt (1 <<< sa f - 1) i = decide (i < f) := low_dec ⟨f, hf⟩ ⟨i, hi⟩
theorem amU_b {U : tU} {a k f i : Nat} (hf : f < 128) : b2 (amU U a k f a k) (amU U a k f a (k + 1)) i = (b2 (U a k) (U a (k + 1)) i || decide (i = f)) := by
  unfold amU
  by_cases h : f < 64
  · rw [if_pos h, tuL_s, tuL_n (by omega)]
    by_cases hi : i < 64
    · rw [b2_lo hi, b2_lo hi, bt_or, one_bt h]
    · rw [b2_hi hi, b2_hi hi, decide_eq_false (by omega), Bool.or_false]
  · rw [if_neg h, tuL_s, tuL_n (by omega)]
    by_cases hi : i < 64
    · rw [b2_lo hi, b2_lo hi, decide_eq_false (by omega), Bool.or_false]
    · rw [b2_hi hi, b2_hi hi, bt_or, one_bt (by omega)]
      congr 1
      exact decide_eq_decide.mpr (by omega)
theorem tnU_b {U : tU} {a k f i : Nat} (hf : f < 128) : b2 (tnU U a k f a k) (tnU U a k f a (k + 1)) i = (b2 (U a k) (U a (k + 1)) i ^^ decide (i = f)) := by
  unfold tnU
  by_cases h : f < 64
  · rw [if_pos h, tuL_s, tuL_n (by omega)]
    by_cases hi : i < 64
    · rw [b2_lo hi, b2_lo hi, bt_xor, one_bt h]
    · rw [b2_hi hi, b2_hi hi, decide_eq_false (by omega), Bool.xor_false]
  · rw [if_neg h, tuL_s, tuL_n (by omega)]
    by_cases hi : i < 64
    · rw [b2_lo hi, b2_lo hi, decide_eq_false (by omega), Bool.xor_false]
    · rw [b2_hi hi, b2_hi hi, bt_xor, one_bt (by omega)]
      congr 1
      exact decide_eq_decide.mpr (by omega)
/-- whether some floor lies ahead -/
def ahU (x z : Int64) (u : Bool) (a : Nat) : Prop := ∃ f, (if u = true then a < f else f < a) ∧ b2 x z f = true
theorem ah_up1 {x z : Int64} {a : Nat} (ha : a < 63) : ahU x z true a ↔ (¬ z = 0 ∨ ¬ x &&& ((-1) <<< sa (a + 1)) = 0) := by
  constructor
  · rintro ⟨f, h1, h2⟩
    have h1 : a < f := h1
    by_cases hf : f < 64
    · rw [b2_lo hf] at h2
      refine Or.inr (bt_ne.mpr ⟨f, hf, ?_⟩)
      rw [bt_and, h2, neg_bt (by omega) hf, decide_eq_true (by omega)]
      rfl
    · rw [b2_hi hf] at h2
      refine Or.inl (bt_ne.mpr ⟨f - 64, ?_, h2⟩)
      apply Classical.byContradiction
      intro h9
      rw [bt_ge (by omega)] at h2
      cases h2
  · rintro (h | h)
    · obtain ⟨i, hi, hb⟩ := bt_ne.mp h
      refine ⟨64 + i, (show a < 64 + i by omega), ?_⟩
      rw [b2_hi (by omega), show 64 + i - 64 = i by omega]
      exact hb
    · obtain ⟨i, hi, hb⟩ := bt_ne.mp h
      rw [bt_and, neg_bt (by omega) hi, Bool.and_eq_true] at hb
      have := of_decide_eq_true hb.2
      exact ⟨i, (show a < i by omega), by rw [b2_lo hi]; exact hb.1⟩
theorem ah_up2 {x z : Int64} {a : Nat} (ha : ¬ a < 63) (ha2 : a < 127) : ahU x z true a ↔ ¬ z &&& ((-1) <<< sa (a - 63)) = 0 := by
  constructor
  · rintro ⟨f, h1, h2⟩
    have h1 : a < f := h1
    have hf : ¬ f < 64 := by omega
    rw [b2_hi hf] at h2
    have hf2 : f - 64 < 64 := by
      apply Classical.byContradiction
      intro h9
      rw [bt_ge (by omega)] at h2
      cases h2
    refine bt_ne.mpr ⟨f - 64, hf2, ?_⟩
    rw [bt_and, h2, neg_bt (by omega) hf2, decide_eq_true (by omega)]
    rfl
  · intro h
    obtain ⟨i, hi, hb⟩ := bt_ne.mp h
    rw [bt_and, neg_bt (by omega) hi, Bool.and_eq_true] at hb
    have := of_decide_eq_true hb.2
    refine ⟨64 + i, (show a < 64 + i by omega), ?_⟩
    rw [b2_hi (by omega), show 64 + i - 64 = i by omega]
    exact hb.1
theorem ah_dn1 {x z : Int64} {a : Nat} (ha : a < 64) : ahU x z false a ↔ ¬ x &&& (1 <<< sa a - 1) = 0 := by
  constructor
  · rintro ⟨f, h1, h2⟩
    have h1 : f < a := h1
    have hf : f < 64 := by omega
    rw [b2_lo hf] at h2
    refine bt_ne.mpr ⟨f, hf, ?_⟩
    rw [bt_and, h2, low_bt ha hf, decide_eq_true h1]
    rfl
  · intro h
    obtain ⟨i, hi, hb⟩ := bt_ne.mp h
    rw [bt_and, low_bt ha hi, Bool.and_eq_true] at hb
    exact ⟨i, of_decide_eq_true hb.2, by rw [b2_lo hi]; exact hb.1⟩
theorem ah_dn2 {x z : Int64} {a : Nat} (ha : ¬ a < 64) (ha2 : a < 128) : ahU x z false a ↔ (¬ x = 0 ∨ ¬ z &&& (1 <<< sa (a - 64) - 1) = 0) := by
  constructor
  · rintro ⟨f, h1, h2⟩
    have h1 : f < a := h1
    by_cases hf : f < 64
    · rw [b2_lo hf] at h2
      exact Or.inl (bt_ne.mpr ⟨f, hf, h2⟩)
    · rw [b2_hi hf] at h2
      refine Or.inr (bt_ne.mpr ⟨f - 64, by omega, ?_⟩)
      rw [bt_and, h2, low_bt (by omega) (by omega), decide_eq_true (by omega)]
      rfl
  · rintro (h | h)
    · obtain ⟨i, hi, hb⟩ := bt_ne.mp h
      exact ⟨i, (show i < a by omega), by rw [b2_lo hi]; exact hb⟩
    · obtain ⟨i, hi, hb⟩ := bt_ne.mp h
      rw [bt_and, low_bt (by omega) hi, Bool.and_eq_true] at hb
      have := of_decide_eq_true hb.2
      refine ⟨64 + i, (show 64 + i < a by omega), ?_⟩
      rw [b2_hi (by omega), show 64 + i - 64 = i by omega]
      exact hb.1
section FCTV
variable {g : fc_G} {l : Launch} {y : MethodName} {cc : ByteArray} {nL : Nat} {ret : Option FieldType} {d n0 s0 : Nat} {M : fc_M} {pc : Nat} {L : List (Option Value)} {st : List Value} {Q : Outcome → fc_M → Prop}
theorem x_topv {v w : Value} (e : v = w) (k : fc_X g l y cc nL ret d n0 s0 M pc L (w :: st) Q) : fc_X g l y cc nL ret d n0 s0 M pc L (v :: st) Q := e ▸ k
end FCTV
