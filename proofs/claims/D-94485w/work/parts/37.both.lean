set_option maxRecDepth 100000
section T37
variable {g : fc_G} {l : Launch} {M : fc_M} {T : tT} {w : Nat → Int32}
def bothN (s : Nat) (a b : Int32) : Int32 := if s = 13 then a + b else if s = 14 then a - b else if s = 15 then a * b else if s = 17 then (if a < b then nI 1 else nI 0) else if s = 18 then (if a = b then nI 1 else nI 0) else if s = 19 then (if b < a then nI 1 else nI 0) else if s = 21 then a &&& b else a ||| b
def isTwo (s : Nat) : Prop := s = 13 ∨ s = 14 ∨ s = 15 ∨ s = 17 ∨ s = 18 ∨ s = 19 ∨ s = 21 ∨ s = 22
def t8 (T : tT) (pl : Nat → Int32) : tT := fun a k => if a = 8 then pl k else T a k
theorem t8_u {T : tT} {pl : Nat → Int32} {i : Nat} {v : Int32} : tu (t8 T pl) 8 i v = t8 T (up pl i v) := by
  funext a k
  by_cases h : a = 8
  · subst h
    simp [tu, t8, up]
  · simp [tu, t8, h]
theorem t8_self {T : tT} : t8 T (T 8) = T := by
  funext a k
  by_cases h : a = 8
  · subst h; rfl
  · exact if_neg h
theorem c_both {a b : Int32} {s : Nat} (hs : isTwo s) : fc_CX g l yX6_both cX6_both 3 (some .int) 1 [.int (nI s), .int a, .int b] (tv g M T w) (tv_ie g M (bothN s a b) T w) := by
  refine fc_enter (by decide) (Nat.le_of_ble_eq_true rfl) rfl ?_
  refine x_iload_n dX6_both_0 rfl ?_
  rcases hs with rfl | rfl | rfl | rfl | rfl | rfl | rfl | rfl
  · refine x_swIn (off := 51) (tgt := 52) dX6_both_1 (by decide) (by decide) rfl (by decide) ?_
    refine x_iload_n dX6_both_52 rfl ?_
    refine x_iload_n dX6_both_53 rfl ?_
    refine x_iadd dX6_both_54 ?_
    refine x_iret dX6_both_55 rfl rfl (tv_i2 ?_ rfl rfl)
    rfl
  · refine x_swIn (off := 55) (tgt := 56) dX6_both_1 (by decide) (by decide) rfl (by decide) ?_
    refine x_iload_n dX6_both_56 rfl ?_
    refine x_iload_n dX6_both_57 rfl ?_
    refine x_isub dX6_both_58 ?_
    refine x_iret dX6_both_59 rfl rfl (tv_i2 ?_ rfl rfl)
    rfl
  · refine x_swIn (off := 59) (tgt := 60) dX6_both_1 (by decide) (by decide) rfl (by decide) ?_
    refine x_iload_n dX6_both_60 rfl ?_
    refine x_iload_n dX6_both_61 rfl ?_
    refine x_imul dX6_both_62 ?_
    refine x_iret dX6_both_63 rfl rfl (tv_i2 ?_ rfl rfl)
    rfl
  · refine x_swIn (off := 63) (tgt := 64) dX6_both_1 (by decide) (by decide) rfl (by decide) ?_
    refine x_iload_n dX6_both_64 rfl ?_
    refine x_iload_n dX6_both_65 rfl ?_
    refine x_icmp_ge (tgt := 73) dX6_both_66 (by decide) (fun hc66 => ?_) (fun hc66 => ?_)
    · refine x_ic0 dX6_both_73 ?_
      refine x_iret dX6_both_74 rfl rfl (tv_i2 ?_ rfl rfl)
      rw [show bothN 17 a b = if a < b then nI 1 else nI 0 from rfl]; simp only [Int32.not_lt.mpr hc66, and_self, and_true, true_and, and_false, false_and, ↓reduceIte, if_true, if_false, not_true_eq_false, not_false_eq_true, eq_self]
    · refine x_ic1 dX6_both_69 ?_
      refine x_goto (tgt := 74) dX6_both_70 (by decide) ?_
      refine x_iret dX6_both_74 rfl rfl (tv_i2 ?_ rfl rfl)
      rw [show bothN 17 a b = if a < b then nI 1 else nI 0 from rfl]; simp only [Int32.not_le.mp hc66, and_self, and_true, true_and, and_false, false_and, ↓reduceIte, if_true, if_false, not_true_eq_false, not_false_eq_true, eq_self]
  · refine x_swIn (off := 74) (tgt := 75) dX6_both_1 (by decide) (by decide) rfl (by decide) ?_
    refine x_iload_n dX6_both_75 rfl ?_
    refine x_iload_n dX6_both_76 rfl ?_
    refine x_icmp_ne (tgt := 84) dX6_both_77 (by decide) (fun hc77 => ?_) (fun hc77 => ?_)
    · refine x_ic0 dX6_both_84 ?_
      refine x_iret dX6_both_85 rfl rfl (tv_i2 ?_ rfl rfl)
      rw [show bothN 18 a b = if a = b then nI 1 else nI 0 from rfl]; simp only [hc77, and_self, and_true, true_and, and_false, false_and, ↓reduceIte, if_true, if_false, not_true_eq_false, not_false_eq_true, eq_self]
    · refine x_ic1 dX6_both_80 ?_
      refine x_goto (tgt := 85) dX6_both_81 (by decide) ?_
      refine x_iret dX6_both_85 rfl rfl (tv_i2 ?_ rfl rfl)
      rw [show bothN 18 a b = if a = b then nI 1 else nI 0 from rfl]; simp only [hc77, and_self, and_true, true_and, and_false, false_and, ↓reduceIte, if_true, if_false, not_true_eq_false, not_false_eq_true, eq_self]
  · refine x_swIn (off := 85) (tgt := 86) dX6_both_1 (by decide) (by decide) rfl (by decide) ?_
    refine x_iload_n dX6_both_86 rfl ?_
    refine x_iload_n dX6_both_87 rfl ?_
    refine x_icmp_le (tgt := 95) dX6_both_88 (by decide) (fun hc88 => ?_) (fun hc88 => ?_)
    · refine x_ic0 dX6_both_95 ?_
      refine x_iret dX6_both_96 rfl rfl (tv_i2 ?_ rfl rfl)
      rw [show bothN 19 a b = if b < a then nI 1 else nI 0 from rfl]; simp only [Int32.not_lt.mpr hc88, and_self, and_true, true_and, and_false, false_and, ↓reduceIte, if_true, if_false, not_true_eq_false, not_false_eq_true, eq_self]
    · refine x_ic1 dX6_both_91 ?_
      refine x_goto (tgt := 96) dX6_both_92 (by decide) ?_
      refine x_iret dX6_both_96 rfl rfl (tv_i2 ?_ rfl rfl)
      rw [show bothN 19 a b = if b < a then nI 1 else nI 0 from rfl]; simp only [Int32.not_le.mp hc88, and_self, and_true, true_and, and_false, false_and, ↓reduceIte, if_true, if_false, not_true_eq_false, not_false_eq_true, eq_self]
  · refine x_swIn (off := 96) (tgt := 97) dX6_both_1 (by decide) (by decide) rfl (by decide) ?_
    refine x_iload_n dX6_both_97 rfl ?_
    refine x_iload_n dX6_both_98 rfl ?_
    refine x_iand dX6_both_99 ?_
    refine x_iret dX6_both_100 rfl rfl (tv_i2 ?_ rfl rfl)
    rfl
  · refine x_swOut (tgt := 101) dX6_both_1 (by decide) (by decide) ?_
    refine x_iload_n dX6_both_101 rfl ?_
    refine x_iload_n dX6_both_102 rfl ?_
    refine x_ior dX6_both_103 ?_
    refine x_iret dX6_both_104 rfl rfl (tv_i2 ?_ rfl rfl)
    rfl
end T37
