set_option maxRecDepth 100000
section T61
variable {g : fc_G} {l : Launch} {M : fc_M} {T : tT} {w : Nat → Int32}
def t14 (T : tT) (b : Nat → Int32) : tT := fun a k => if a = 14 then b k else T a k
theorem t14_u {T : tT} {b : Nat → Int32} {i : Nat} {v : Int32} : tu (t14 T b) 14 i v = t14 T (up b i v) := by
  funext a k
  by_cases h : a = 14
  · subst h
    simp [tu, t14, up]
  · simp [tu, t14, h]
theorem t14_self {T : tT} : t14 T (T 14) = T := by
  funext a k
  by_cases h : a = 14
  · subst h; rfl
  · exact if_neg h
def ppS (w : Nat → Int32) (F n : Nat) (A : Nat → Int32) : Nat → Nat → Int32 → (Nat → Int32) → Int32 × (Nat → Int32)
  | 0, _, s, C => (s, C)
  | k + 1, a, s, C => if a < F then (if A (80 * (n - 1) + a) = -1 then ppS w F n A k (a + 1) s C else if s = -1 ∨ blQ w a + A (80 * (n - 1) + a) < s then ppS w F n A k (a + 1) (blQ w a + A (80 * (n - 1) + a)) (up C 0 (nI a)) else ppS w F n A k (a + 1) s C) else (s, C)
def ppC (w : Nat → Int32) (F n : Nat) (A : Nat → Int32) (i a b : Nat) : Prop := ¬ A (80 * (n - 1 - i) + b) = -1 ∧ bwQ w F a (nI b) + A (80 * (n - 1 - i) + b) = A (80 * (n - i) + a)
def ppF (w : Nat → Int32) (F n : Nat) (A : Nat → Int32) (i a : Nat) : Nat → Nat → Nat
  | 0, b => b
  | k + 1, b => if A (80 * (n - 1 - i) + b) = -1 then ppF w F n A i a k (b + 1) else if bwQ w F a (nI b) + A (80 * (n - 1 - i) + b) = A (80 * (n - i) + a) then b else ppF w F n A i a k (b + 1)
theorem ppF_ok {w : Nat → Int32} {F n : Nat} {A : Nat → Int32} {i a bs : Nat} (h : ppC w F n A i a bs) : ∀ k b, b ≤ bs → bs < b + k → ppC w F n A i a (ppF w F n A i a k b) ∧ b ≤ ppF w F n A i a k b ∧ ppF w F n A i a k b ≤ bs
  | 0, b, h1, h2 => by omega
  | k + 1, b, h1, h2 => by
    by_cases c1 : A (80 * (n - 1 - i) + b) = -1
    · rw [ppF, if_pos c1]
      have hb : b ≠ bs := by
        intro e
        subst e
        exact h.1 c1
      obtain ⟨q1, q2, q3⟩ := ppF_ok h k (b + 1) (by omega) (by omega)
      exact ⟨q1, by omega, q3⟩
    · by_cases c2 : bwQ w F a (nI b) + A (80 * (n - 1 - i) + b) = A (80 * (n - i) + a)
      · rw [ppF, if_neg c1, if_pos c2]
        exact ⟨⟨c1, c2⟩, Nat.le_refl _, h1⟩
      · rw [ppF, if_neg c1, if_neg c2]
        have hb : b ≠ bs := by
          intro e
          subst e
          exact c2 h.2
        obtain ⟨q1, q2, q3⟩ := ppF_ok h k (b + 1) (by omega) (by omega)
        exact ⟨q1, by omega, q3⟩
def ppO (w : Nat → Int32) (F n : Nat) (A : Nat → Int32) : Nat → Nat → (Nat → Int32) → (Nat → Int32)
  | 0, _, C => C
  | k + 1, i, C => if i < n then ppO w F n A k (i + 1) (up C i (nI (ppF w F n A i (C (i - 1)).toNatClampNeg (F + 1) ((C (i - 1)).toNatClampNeg + 1)))) else C
theorem kG_X6_X6_below : GoodIn lw_all (wsV RX6 392 RX6 yX6_below (ws_ yX6_below cX6_below 4 (some .int))) := lw_V q1608 q1610 qs113 q124 q1611
theorem kP_X6_below : kPar yX6_below 1 := by decide +kernel
set_option maxHeartbeats 1000000 in
theorem l_pl48 {n0 s0 : Nat} (hM : tw0 + 17 ≤ fc_nx M) {F n : Nat} (hF : F ≤ 80) (hn : n ≤ 4) (hn1 : 1 ≤ n) (h0 : w 0 = nI F) {x2 : Int32} {Q : Outcome → fc_M → Prop} : ∀ (k a : Nat) (s : Int32) (C : Nat → Int32) (v5 : Option Value) {v6 : Option Value}, a ≤ F → F < a + k → (∀ v4 v5, fc_X g l yX6_places cX6_places 7 (some .int) 5 n0 s0 (tv g M (t14 T (ppS w F n (T 13) k a s C).2) w) 126 [some (.ref (fc_B g + tw0)), some (.int (nI n)), some (.int (x2)), some (.int ((ppS w F n (T 13) k a s C).1)), v4, v5, v6] [] (Q)) → fc_X g l yX6_places cX6_places 7 (some .int) 5 n0 s0 (tv g M (t14 T C) w) 48 [some (.ref (fc_B g + tw0)), some (.int (nI n)), some (.int (x2)), some (.int (s)), some (.int (nI a)), v5, v6] [] (Q) := by
  intro k
  induction k with
  | zero => intro a s C v5 v6 h1 h2 kk; omega
  | succ k ih =>
    intro a s C v5 v6 h1 h2 kk
    refine x_iload dX6_places_48 rfl ?_
    refine x_aload_n dX6_places_50 rfl ?_
    refine v_geta 0 hM dX6_places_51 (by decide) rfl q1130 ?_
    refine x_ic0 dX6_places_54 ?_
    refine v_wld hM dX6_places_55 rfl (by omega) ?_
    refine x_top h0 ?_
    refine x_icmpN_ge (tgt := 126) dX6_places_56 (by decide) (by omega) (by omega) (fun hc56 => ?_) (fun hc56 => ?_)
    · rw [ppS, if_neg (Nat.not_lt.mpr hc56)] at kk
      exact kk _ _
    · refine x_aload_n dX6_places_59 rfl ?_
      refine v_geta 34 hM dX6_places_60 (by decide) rfl q1164 ?_
      refine x_bipush (v := nI 80) dX6_places_63 (by decide) ?_
      refine x_iload_n dX6_places_65 rfl ?_
      refine x_ic1 dX6_places_66 ?_
      refine x_isubN dX6_places_67 (by omega) ?_
      refine x_imulN dX6_places_68 ?_
      refine x_iload dX6_places_69 rfl ?_
      refine x_iaddN dX6_places_71 ?_
      refine v_iald 13 hM dX6_places_72 (by decide) (by decide) rfl rfl (by show _ < 320; omega) ?_
      refine x_top (show t14 T C 13 (80 * (n - 1) + a) = T 13 (80 * (n - 1) + a) from rfl) ?_
      refine x_istore dX6_places_73 (by decide) rfl ?_
      refine x_iload dX6_places_75 rfl ?_
      refine x_icm1 dX6_places_77 ?_
      refine x_icmp_eq (tgt := 120) dX6_places_78 (by decide) (fun hc78 => ?_) (fun hc78 => ?_)
      · refine x_iincN (n := 1) dX6_places_120 (by decide) rfl (by decide) rfl ?_
        refine x_goto (tgt := 48) dX6_places_123 (by decide) ?_
        rw [ppS, if_pos hc56, if_pos hc78] at kk
        exact ih (a + 1) _ _ _ (by omega) (by omega) kk
      · refine x_iload_n dX6_places_81 rfl ?_
        refine x_icm1 dX6_places_82 ?_
        refine x_icmp_eq (tgt := 102) dX6_places_83 (by decide) (fun hc83 => ?_) (fun hc83 => ?_)
        · refine x_aload_n dX6_places_102 rfl ?_
          refine x_iload dX6_places_103 rfl ?_
          refine v_V1ie hM dX6_places_105 kG_X6_X6_below kP_X6_below rfl (by omega) (by decide) (Nat.le_of_ble_eq_true rfl) (c_below hM (by omega) rfl) ?_
          refine x_iload dX6_places_108 rfl ?_
          refine x_iadd dX6_places_110 ?_
          refine x_istore_n dX6_places_111 (by decide) rfl ?_
          refine x_aload_n dX6_places_112 rfl ?_
          refine v_geta 35 hM dX6_places_113 (by decide) rfl q1165 ?_
          refine x_ic0 dX6_places_116 ?_
          refine x_iload dX6_places_117 rfl ?_
          refine v_iast 14 hM dX6_places_119 (by decide) (by decide) rfl rfl (by show _ < 4; omega) ?_
          refine x_eqM (congrArg (fun z => tv g M z w) t14_u) ?_
          refine x_iincN (n := 1) dX6_places_120 (by decide) rfl (by decide) rfl ?_
          refine x_goto (tgt := 48) dX6_places_123 (by decide) ?_
          rw [ppS, if_pos hc56, if_neg hc78, if_pos (Or.inl hc83)] at kk
          exact ih (a + 1) _ _ _ (by omega) (by omega) kk
        · refine x_aload_n dX6_places_86 rfl ?_
          refine x_iload dX6_places_87 rfl ?_
          refine v_V1ie hM dX6_places_89 kG_X6_X6_below kP_X6_below rfl (by omega) (by decide) (Nat.le_of_ble_eq_true rfl) (c_below hM (by omega) rfl) ?_
          refine x_iload dX6_places_92 rfl ?_
          refine x_iadd dX6_places_94 ?_
          refine x_iload_n dX6_places_95 rfl ?_
          refine x_icmp_lt (tgt := 102) dX6_places_96 (by decide) (fun hc96 => ?_) (fun hc96 => ?_)
          · refine x_aload_n dX6_places_102 rfl ?_
            refine x_iload dX6_places_103 rfl ?_
            refine v_V1ie hM dX6_places_105 kG_X6_X6_below kP_X6_below rfl (by omega) (by decide) (Nat.le_of_ble_eq_true rfl) (c_below hM (by omega) rfl) ?_
            refine x_iload dX6_places_108 rfl ?_
            refine x_iadd dX6_places_110 ?_
            refine x_istore_n dX6_places_111 (by decide) rfl ?_
            refine x_aload_n dX6_places_112 rfl ?_
            refine v_geta 35 hM dX6_places_113 (by decide) rfl q1165 ?_
            refine x_ic0 dX6_places_116 ?_
            refine x_iload dX6_places_117 rfl ?_
            refine v_iast 14 hM dX6_places_119 (by decide) (by decide) rfl rfl (by show _ < 4; omega) ?_
            refine x_eqM (congrArg (fun z => tv g M z w) t14_u) ?_
            refine x_iincN (n := 1) dX6_places_120 (by decide) rfl (by decide) rfl ?_
            refine x_goto (tgt := 48) dX6_places_123 (by decide) ?_
            rw [ppS, if_pos hc56, if_neg hc78, if_pos (Or.inr hc96)] at kk
            exact ih (a + 1) _ _ _ (by omega) (by omega) kk
          · refine x_goto (tgt := 120) dX6_places_99 (by decide) ?_
            refine x_iincN (n := 1) dX6_places_120 (by decide) rfl (by decide) rfl ?_
            refine x_goto (tgt := 48) dX6_places_123 (by decide) ?_
            rw [ppS, if_pos hc56, if_neg hc78, if_neg (fun z => z.elim hc83 hc96)] at kk
            exact ih (a + 1) _ _ _ (by omega) (by omega) kk
set_option maxHeartbeats 1000000 in
theorem l_pl152 {n0 s0 : Nat} (hM : tw0 + 17 ≤ fc_nx M) {F n : Nat} (hF : F ≤ 80) (hn : n ≤ 4) (hn1 : 1 ≤ n) (h0 : w 0 = nI F) {x2 x3 : Int32} {i a bs : Nat} (hi1 : 1 ≤ i) (hi : i < n) (ha : a < F) (hbs : bs < F) {C : Nat → Int32} (hs : ppC w F n (T 13) i a bs) {Q : Outcome → fc_M → Prop} : ∀ (k b : Nat), b ≤ bs → bs < b + k → (fc_X g l yX6_places cX6_places 7 (some .int) 5 n0 s0 (tv g M (t14 T C) w) 223 [some (.ref (fc_B g + tw0)), some (.int (nI n)), some (.int (x2)), some (.int (x3)), some (.int (nI i)), some (.int (nI a)), some (.int (nI (ppF w F n (T 13) i a k b)))] [] (Q)) → fc_X g l yX6_places cX6_places 7 (some .int) 5 n0 s0 (tv g M (t14 T C) w) 152 [some (.ref (fc_B g + tw0)), some (.int (nI n)), some (.int (x2)), some (.int (x3)), some (.int (nI i)), some (.int (nI a)), some (.int (nI b))] [] (Q) := by
  intro k
  induction k with
  | zero => intro b h1 h2 kk; omega
  | succ k ih =>
    intro b h1 h2 kk
    refine x_aload_n dX6_places_152 rfl ?_
    refine v_geta 34 hM dX6_places_153 (by decide) rfl q1164 ?_
    refine x_bipush (v := nI 80) dX6_places_156 (by decide) ?_
    refine x_iload_n dX6_places_158 rfl ?_
    refine x_ic1 dX6_places_159 ?_
    refine x_isubN dX6_places_160 (by omega) ?_
    refine x_iload dX6_places_161 rfl ?_
    refine x_isubN dX6_places_163 (by omega) ?_
    refine x_imulN dX6_places_164 ?_
    refine x_iload dX6_places_165 rfl ?_
    refine x_iaddN dX6_places_167 ?_
    refine v_iald 13 hM dX6_places_168 (by decide) (by decide) rfl rfl (by show _ < 320; omega) ?_
    refine x_top (show t14 T C 13 (80 * (n - 1 - i) + b) = T 13 (80 * (n - 1 - i) + b) from rfl) ?_
    refine x_icm1 dX6_places_169 ?_
    refine x_icmp_eq (tgt := 217) dX6_places_170 (by decide) (fun hc170 => ?_) (fun hc170 => ?_)
    · refine x_iincN (n := 1) dX6_places_217 (by decide) rfl (by decide) rfl ?_
      refine x_goto (tgt := 152) dX6_places_220 (by decide) ?_
      rw [ppF, if_pos hc170] at kk
      have hb : b ≠ bs := by
        intro e
        subst e
        exact hs.1 hc170
      exact ih (b + 1) (by omega) (by omega) kk
    · refine x_aload_n dX6_places_173 rfl ?_
      refine x_iload dX6_places_174 rfl ?_
      refine x_iload dX6_places_176 rfl ?_
      refine v_V2ie hM dX6_places_178 kG_X6_X6_between kP_X6_between rfl (by omega) (by decide) (Nat.le_of_ble_eq_true rfl) (c_between hM hF h0 (by omega) rfl) ?_
      refine x_aload_n dX6_places_181 rfl ?_
      refine v_geta 34 hM dX6_places_182 (by decide) rfl q1164 ?_
      refine x_bipush (v := nI 80) dX6_places_185 (by decide) ?_
      refine x_iload_n dX6_places_187 rfl ?_
      refine x_ic1 dX6_places_188 ?_
      refine x_isubN dX6_places_189 (by omega) ?_
      refine x_iload dX6_places_190 rfl ?_
      refine x_isubN dX6_places_192 (by omega) ?_
      refine x_imulN dX6_places_193 ?_
      refine x_iload dX6_places_194 rfl ?_
      refine x_iaddN dX6_places_196 ?_
      refine v_iald 13 hM dX6_places_197 (by decide) (by decide) rfl rfl (by show _ < 320; omega) ?_
      refine x_top (show t14 T C 13 (80 * (n - 1 - i) + b) = T 13 (80 * (n - 1 - i) + b) from rfl) ?_
      refine x_iadd dX6_places_198 ?_
      refine x_aload_n dX6_places_199 rfl ?_
      refine v_geta 34 hM dX6_places_200 (by decide) rfl q1164 ?_
      refine x_bipush (v := nI 80) dX6_places_203 (by decide) ?_
      refine x_iload_n dX6_places_205 rfl ?_
      refine x_iload dX6_places_206 rfl ?_
      refine x_isubN dX6_places_208 (by omega) ?_
      refine x_imulN dX6_places_209 ?_
      refine x_iload dX6_places_210 rfl ?_
      refine x_iaddN dX6_places_212 ?_
      refine v_iald 13 hM dX6_places_213 (by decide) (by decide) rfl rfl (by show _ < 320; omega) ?_
      refine x_top (show t14 T C 13 (80 * (n - i) + a) = T 13 (80 * (n - i) + a) from rfl) ?_
      refine x_icmp_eq (tgt := 223) dX6_places_214 (by decide) (fun hc214 => ?_) (fun hc214 => ?_)
      · rw [ppF, if_neg hc170, if_pos hc214] at kk
        exact kk
      · refine x_iincN (n := 1) dX6_places_217 (by decide) rfl (by decide) rfl ?_
        refine x_goto (tgt := 152) dX6_places_220 (by decide) ?_
        rw [ppF, if_neg hc170, if_neg hc214] at kk
        have hb : b ≠ bs := by
          intro e
          subst e
          exact hc214 hs.2
        exact ih (b + 1) (by omega) (by omega) kk
set_option maxHeartbeats 1000000 in
theorem b_pl223 {n0 s0 : Nat} (hM : tw0 + 17 ≤ fc_nx M) {F n : Nat} (hF : F ≤ 80) (hn : n ≤ 4) (hn1 : 1 ≤ n) (h0 : w 0 = nI F) {x2 x3 : Int32} {i b : Nat} {v5 : Option Value} (hi : i < n) {C : Nat → Int32} {Q : Outcome → fc_M → Prop} (kk : fc_X g l yX6_places cX6_places 7 (some .int) 5 n0 s0 (tv g M (t14 T (up C i (nI b))) w) 129 [some (.ref (fc_B g + tw0)), some (.int (nI n)), some (.int (x2)), some (.int (x3)), some (.int (nI (i + 1))), v5, some (.int (nI b))] [] (Q)) : fc_X g l yX6_places cX6_places 7 (some .int) 5 n0 s0 (tv g M (t14 T C) w) 223 [some (.ref (fc_B g + tw0)), some (.int (nI n)), some (.int (x2)), some (.int (x3)), some (.int (nI i)), v5, some (.int (nI b))] [] (Q) := by
  refine x_aload_n dX6_places_223 rfl ?_
  refine v_geta 35 hM dX6_places_224 (by decide) rfl q1165 ?_
  refine x_iload dX6_places_227 rfl ?_
  refine x_iload dX6_places_229 rfl ?_
  refine v_iast 14 hM dX6_places_231 (by decide) (by decide) rfl rfl (by show _ < 4; omega) ?_
  refine x_eqM (congrArg (fun z => tv g M z w) t14_u) ?_
  refine x_iincN (n := 1) dX6_places_232 (by decide) rfl (by decide) rfl ?_
  refine x_goto (tgt := 129) dX6_places_235 (by decide) ?_
  exact kk
set_option maxHeartbeats 1000000 in
theorem l_pl129 {n0 s0 : Nat} (hM : tw0 + 17 ≤ fc_nx M) {F n : Nat} (hF : F ≤ 80) (hn : n ≤ 4) (hn1 : 1 ≤ n) (h0 : w 0 = nI F) (HS : ∀ m a, 0 < m → m < n → a < F → ¬ T 13 (80 * m + a) = -1 → ∃ b, a < b ∧ b < F ∧ ¬ T 13 (80 * (m - 1) + b) = -1 ∧ bwQ w F a (nI b) + T 13 (80 * (m - 1) + b) = T 13 (80 * m + a)) {x2 x3 : Int32} {Q : Outcome → fc_M → Prop} : ∀ (k i : Nat) (C : Nat → Int32) (v5 v6 : Option Value), 1 ≤ i → i ≤ n → n < i + k → (∃ a, a < F ∧ C (i - 1) = nI a ∧ ¬ T 13 (80 * (n - i) + a) = -1) → (∀ v4 v5 v6, fc_X g l yX6_places cX6_places 7 (some .int) 5 n0 s0 (tv g M (t14 T (ppO w F n (T 13) k i C)) w) 238 [some (.ref (fc_B g + tw0)), some (.int (nI n)), some (.int (x2)), some (.int (x3)), v4, v5, v6] [] (Q)) → fc_X g l yX6_places cX6_places 7 (some .int) 5 n0 s0 (tv g M (t14 T C) w) 129 [some (.ref (fc_B g + tw0)), some (.int (nI n)), some (.int (x2)), some (.int (x3)), some (.int (nI i)), v5, v6] [] (Q) := by
  intro k
  induction k with
  | zero => intro i C v5 v6 h3 h1 h2 hI kk; omega
  | succ k ih =>
    intro i C v5 v6 h3 h1 h2 hI kk
    obtain ⟨a, ha, hC, hA⟩ := hI
    refine x_iload dX6_places_129 rfl ?_
    refine x_iload_n dX6_places_131 rfl ?_
    refine x_icmpN_ge (tgt := 238) dX6_places_132 (by decide) (by omega) (by omega) (fun hc132 => ?_) (fun hc132 => ?_)
    · rw [ppO, if_neg (Nat.not_lt.mpr hc132)] at kk
      exact kk _ _ _
    · refine x_aload_n dX6_places_135 rfl ?_
      refine v_geta 35 hM dX6_places_136 (by decide) rfl q1165 ?_
      refine x_iload dX6_places_139 rfl ?_
      refine x_ic1 dX6_places_141 ?_
      refine x_isubN dX6_places_142 (by omega) ?_
      refine v_iald 14 hM dX6_places_143 (by decide) (by decide) rfl rfl (by show _ < 4; omega) ?_
      refine x_top (show t14 T C 14 (i - 1) = nI a from hC) ?_
      refine x_istore dX6_places_144 (by decide) rfl ?_
      refine x_iload dX6_places_146 rfl ?_
      refine x_ic1 dX6_places_148 ?_
      refine x_iaddN dX6_places_149 ?_
      refine x_istore dX6_places_150 (by decide) rfl ?_
      obtain ⟨bs, e1, e2, e3, e4⟩ := HS (n - i) a (by omega) (by omega) ha hA
      have ei : n - i - 1 = n - 1 - i := by omega
      rw [ei] at e3 e4
      have hs : ppC w F n (T 13) i a bs := ⟨e3, e4⟩
      obtain ⟨q1, q2, q3⟩ := ppF_ok hs (F + 1) (a + 1) (by omega) (by omega)
      rw [ppO, if_pos hc132, hC, nI_clamp (by omega)] at kk
      refine l_pl152 hM hF hn hn1 h0 h3 hc132 ha e2 hs (F + 1) (a + 1) (by omega) (by omega) (b_pl223 hM hF hn hn1 h0 hc132 ?_)
      refine ih (i + 1) _ _ _ (by omega) (by omega) (by omega) ⟨ppF w F n (T 13) i a (F + 1) (a + 1), by omega, ?_, ?_⟩ kk
      · rw [Nat.add_sub_cancel]; exact if_pos rfl
      · have e9 : n - (i + 1) = n - 1 - i := by omega
        rw [e9]
        exact q1.1
end T61
