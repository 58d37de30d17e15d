set_option maxRecDepth 100000
def bI (p : Prop) [Decidable p] : Int32 := if p then nI 1 else nI 0
theorem bI_t {p : Prop} [Decidable p] (h : p) : bI p = nI 1 := if_pos h
theorem bI_f {p : Prop} [Decidable p] (h : ¬ p) : bI p = nI 0 := if_neg h
theorem bI_0 {p : Prop} [Decidable p] : bI p = 0 ↔ ¬ p := by
  by_cases h : p
  · rw [bI_t h]; exact ⟨fun q => absurd q (by decide), fun q => absurd h q⟩
  · rw [bI_f h]; exact ⟨fun _ => h, fun _ => rfl⟩
theorem bI_congr {p q : Prop} [Decidable p] [Decidable q] (h : p ↔ q) : bI p = bI q := by
  by_cases hp : p
  · rw [bI_t hp, bI_t (h.mp hp)]
  · rw [bI_f hp, bI_f (fun z => hp (h.mpr z))]
theorem bI_nar {p : Prop} [Decidable p] : narrow .boolean (.int (bI p)) = .int (bI p) := by
  by_cases h : p
  · rw [bI_t h]; rfl
  · rw [bI_f h]; rfl
/-- x is a number below n -/
abbrev inN (x : Int32) (n : Nat) : Prop := 0 ≤ x.toInt ∧ x.toInt < n
theorem inN_iff {x : Int32} {n : Nat} (hn : n < 2 ^ 31) : inN x n ↔ ∃ k, k < n ∧ x = nI k := by
  constructor
  · intro h
    obtain ⟨j, h1, h2⟩ := nI_of (x := x) (by intro q; have h3 : x.toInt < (0 : Int32).toInt := Int32.lt_iff_toInt_lt.mp q; have h4 : (0 : Int32).toInt = 0 := rfl; have := h.1; omega)
    exact ⟨j, by have := h.2; rw [h2, nI_toInt h1] at this; omega, h2⟩
  · rintro ⟨k, h1, rfl⟩
    exact ⟨by rw [nI_toInt (by omega)]; omega, by rw [nI_toInt (by omega)]; omega⟩
theorem inN_of {k n : Nat} (h : k < n) (hn : n < 2 ^ 31) : inN (nI k) n := (inN_iff hn).mpr ⟨k, h, rfl⟩
theorem nI_m1_toInt {n : Nat} (hn : n < 2 ^ 31) : (nI n - nI 1).toInt = (n : Int) - 1 := by
  cases n with
  | zero => rfl
  | succ m =>
    rw [pk_sub (by omega), nI_toInt (by omega)]
    omega
theorem inN_le {x : Int32} {n : Nat} (hn : n < 2 ^ 31) : (nI 0 ≤ x ∧ x ≤ nI n - nI 1) ↔ inN x n := by
  rw [Int32.le_iff_toInt_le, Int32.le_iff_toInt_le, nI_m1_toInt hn, nI_toInt (by decide)]
  constructor <;> intro h <;> exact ⟨by omega, by omega⟩
/-- how many of the first n -/
def cnt (f : Nat → Bool) : Nat → Nat
  | 0 => 0
  | n + 1 => cnt f n + (if f n = true then 1 else 0)
theorem cnt_t {f : Nat → Bool} {i : Nat} (h : f i = true) : cnt f (i + 1) = cnt f i + 1 := by simp [cnt, h]
theorem cnt_f {f : Nat → Bool} {i : Nat} (h : f i = false) : cnt f (i + 1) = cnt f i + 0 := by simp [cnt, h]
theorem cnt_le (f : Nat → Bool) (n : Nat) : cnt f n ≤ n := by
  induction n with
  | zero => exact Nat.le_refl _
  | succ n ih => unfold cnt; split <;> omega
section FB
variable {g : fc_G} {l : Launch} {y : MethodName} {cc : ByteArray} {nL : Nat} {ret : Option FieldType} {d n0 s0 : Nat} {M : fc_M} {pc : Nat} {L : List (Option Value)} {st : List Value} {Q : Outcome → fc_M → Prop}
theorem x_ifB_eq {p : Prop} [Decidable p] {off : Int} {tgt : Nat} (hd : decode cc pc = .ok (.ifCond .eq off, 3)) (ht : (pc : Int) + off = (tgt : Int)) (k1 : ¬ p → fc_X g l y cc nL ret d n0 s0 M tgt L st Q) (k2 : p → fc_X g l y cc nL ret d n0 s0 M (pc + 3) L st Q) : fc_X g l y cc nL ret d n0 s0 M pc L (.int (bI p) :: st) Q :=
  x_if_eq hd ht (fun q => k1 (bI_0.mp q)) (fun q => k2 (Classical.byContradiction fun z => q (bI_0.mpr z)))
theorem x_ifB_ne {p : Prop} [Decidable p] {off : Int} {tgt : Nat} (hd : decode cc pc = .ok (.ifCond .ne off, 3)) (ht : (pc : Int) + off = (tgt : Int)) (k1 : p → fc_X g l y cc nL ret d n0 s0 M tgt L st Q) (k2 : ¬ p → fc_X g l y cc nL ret d n0 s0 M (pc + 3) L st Q) : fc_X g l y cc nL ret d n0 s0 M pc L (.int (bI p) :: st) Q :=
  x_if_ne hd ht (fun q => k1 (Classical.byContradiction fun z => q (bI_0.mpr z))) (fun q => k2 (bI_0.mp q))
end FB
