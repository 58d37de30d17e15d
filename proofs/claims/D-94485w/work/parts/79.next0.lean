set_option maxRecDepth 100000
section T79
variable {g : fc_G} {l : Launch} {M : fc_M} {T : tT} {w : Nat → Int32}
def tS4 (T : tT) (x y z v : Int32) : tT := fun a k => if a = 0 then (if k = 17 then x else if k = 18 then y else if k = 19 then z else if k = 20 then v else T 0 k) else T a k
theorem tS4_17 {T : tT} {x y z v u : Int32} : tu (tS4 T x y z v) 0 17 u = tS4 T u y z v := by
  funext a k
  by_cases h : a = 0
  · subst h
    by_cases h2 : k = 17 <;> simp [tu, tS4, h2]
  · simp [tu, tS4, h]
theorem tS4_18 {T : tT} {x y z v u : Int32} : tu (tS4 T x y z v) 0 18 u = tS4 T x u z v := by
  funext a k
  by_cases h : a = 0
  · subst h
    by_cases h2 : k = 18 <;> simp [tu, tS4, h2]
  · simp [tu, tS4, h]
theorem tS4_19 {T : tT} {x y z v u : Int32} : tu (tS4 T x y z v) 0 19 u = tS4 T x y u v := by
  funext a k
  by_cases h : a = 0
  · subst h
    by_cases h2 : k = 19 <;> simp [tu, tS4, h2]
  · simp [tu, tS4, h]
theorem tS4_20 {T : tT} {x y z v u : Int32} : tu (tS4 T x y z v) 0 20 u = tS4 T x y z u := by
  funext a k
  by_cases h : a = 0
  · subst h
    by_cases h2 : k = 20 <;> simp [tu, tS4, h2]
  · simp [tu, tS4, h]
theorem tS4_self {T : tT} : tS4 T (T 0 17) (T 0 18) (T 0 19) (T 0 20) = T := by
  funext a k
  by_cases h : a = 0
  · subst h
    simp only [tS4, if_true]
    repeat' split
    all_goals (first | rfl | simp_all)
  · simp [tS4, h]
def sq (b : Nat → Int32) (t k : Nat) : Int32 := if k < t then b k else -1
theorem sq_lt {b : Nat → Int32} {t k : Nat} (h : sq b t k ≠ -1) : k < t := Nat.lt_of_not_le fun q => h (if_neg (Nat.not_lt.mpr q))
abbrev isSp (x : Int32) : Prop := x = nI 32 ∨ x = nI 10
abbrev isSg (x : Int32) : Prop := x = nI 59 ∨ x = nI 43 ∨ x = nI 45 ∨ x = nI 42 ∨ x = nI 47 ∨ x = nI 40 ∨ x = nI 41 ∨ x = nI 60 ∨ x = nI 61 ∨ x = nI 62
theorem isSp_n {x : Int32} (h : isSp x) : x ≠ -1 := fun e => by subst e; exact absurd h (by decide)
theorem isLe_n {x : Int32} (h : isLe x) : x ≠ -1 := fun e => by subst e; exact absurd h (by decide)
theorem isDi_n {x : Int32} (h : isDi x) : x ≠ -1 := fun e => by subst e; exact absurd h (by decide)
def spL (b : Nat → Int32) (t : Nat) : Nat → Nat → Nat
  | 0, a => a
  | k + 1, a => if isSp (sq b t a) then spL b t k (a + 1) else a
def leL (b : Nat → Int32) (t : Nat) : Nat → Nat → Nat
  | 0, a => a
  | k + 1, a => if isLe (sq b t a) then leL b t k (a + 1) else a
def diL (b : Nat → Int32) (t s : Nat) : Nat → Nat → Int32 → Nat × Int32
  | 0, a, v => (a, v)
  | k + 1, a, v => if isDi (sq b t a) then diL b t s k (a + 1) (if a < s + 4 then nI 10 * v + sq b t a - nI 48 else v) else (a, v)
theorem spL_le {b : Nat → Int32} {t : Nat} : ∀ (k a : Nat), a ≤ t → a ≤ spL b t k a ∧ spL b t k a ≤ t := by
  intro k
  induction k with
  | zero => intro a h; exact ⟨Nat.le_refl a, h⟩
  | succ k ih =>
    intro a h
    rw [spL]
    by_cases c : isSp (sq b t a)
    · rw [if_pos c]
      have h2 := sq_lt (isSp_n c)
      have := ih (a + 1) (by omega)
      omega
    · rw [if_neg c]; omega
theorem leL_le {b : Nat → Int32} {t : Nat} : ∀ (k a : Nat), a ≤ t → a ≤ leL b t k a ∧ leL b t k a ≤ t := by
  intro k
  induction k with
  | zero => intro a h; exact ⟨Nat.le_refl a, h⟩
  | succ k ih =>
    intro a h
    rw [leL]
    by_cases c : isLe (sq b t a)
    · rw [if_pos c]
      have h2 := sq_lt (isLe_n c)
      have := ih (a + 1) (by omega)
      omega
    · rw [if_neg c]; omega
theorem diL_le {b : Nat → Int32} {t s : Nat} : ∀ (k a : Nat) (v : Int32), a ≤ t → a ≤ (diL b t s k a v).1 ∧ (diL b t s k a v).1 ≤ t := by
  intro k
  induction k with
  | zero => intro a v h; exact ⟨Nat.le_refl a, h⟩
  | succ k ih =>
    intro a v h
    rw [diL]
    by_cases c : isDi (sq b t a)
    · rw [if_pos c]
      have h2 := sq_lt (isDi_n c)
      have := ih (a + 1) (if a < s + 4 then nI 10 * v + sq b t a - nI 48 else v) (by omega)
      omega
    · rw [if_neg c]
      exact ⟨Nat.le_refl a, h⟩
abbrev tTk : Type := Nat × Nat × Int32 × Int32
def nxC (wh : Int32) (b : Nat → Int32) (t s : Nat) (v : Int32) : tTk :=
  if sq b t s = -1 then (s, s, nI 0, v)
  else if isLe (sq b t s) then (s, leL b t 401 s, wdW wh b s (leL b t 401 s - s), v)
  else if isDi (sq b t s) then (s, (diL b t s 401 s (nI 0)).1, (if (diL b t s 401 s (nI 0)).1 - s < 5 then nI 2 else nI 1), (diL b t s 401 s (nI 0)).2)
  else (s, s + 1, (if isSg (sq b t s) then nI 100 + sq b t s else nI 1), v)
def nxK (wh : Int32) (b : Nat → Int32) (t a : Nat) (v : Int32) : tTk := nxC wh b t (spL b t 401 a) v
def tSk (T : tT) (q : tTk) : tT := tS4 T (nI q.2.1) q.2.2.1 (nI q.1) q.2.2.2
theorem kG_X6_X6_see : GoodIn lw_all (wsV RX6 138 RX6 yX6_see (ws_ yX6_see cX6_see 2 (some .int))) := lw_V q1267 q1269 qs51 q124 q1270
theorem kP_X6_see : kPar yX6_see 1 := by decide +kernel
set_option maxHeartbeats 1000000 in
theorem l_nxA {n0 s0 : Nat} {Q : Outcome → fc_M → Prop} {d : Nat} {o1 o2 : Option Value} (hd9 : 8 ≤ d) (hM : tw0 + 17 ≤ fc_nx M) {t : Nat} (ht : T 0 16 = nI t) (htl : t ≤ 400) {y z v : Int32} : ∀ (k a : Nat), a ≤ t → t < a + k → fc_X g l yX6_next0 cX6_next0 3 (none) d n0 s0 (tv g M (tS4 T (nI (spL (T 7) t k a)) (y) (z) (v)) w) 39 [some (.ref (fc_B g + tw0)), o1, o2] [] (Q) → fc_X g l yX6_next0 cX6_next0 3 (none) d n0 s0 (tv g M (tS4 T (nI a) (y) (z) (v)) w) 0 [some (.ref (fc_B g + tw0)), o1, o2] [] (Q) := by
  intro k
  induction k with
  | zero => intro a h1 h2 kk; omega
  | succ k ih =>
    intro a h1 h2 kk
    refine x_aload_n dX6_next0_0 rfl ?_
    refine x_aload_n dX6_next0_1 rfl ?_
    refine v_geti 17 hM dX6_next0_2 (by decide) rfl q1147 ?_
    refine x_top (w := nI a) rfl ?_
    refine v_V1ie hM dX6_next0_5 kG_X6_X6_see kP_X6_see rfl (by omega) (by decide) (Nat.le_of_ble_eq_true rfl) (c_see (T := tS4 T (nI a) (y) (z) (v)) (w := w) hM ht htl (by omega) rfl) ?_
    refine x_top (w := sq (T 7) t a) rfl ?_
    refine x_bipush (v := nI 32) dX6_next0_8 (by decide) ?_
    refine x_icmp_eq (tgt := 26) dX6_next0_10 (by decide) (fun hc10 => ?_) (fun hc10 => ?_)
    · refine x_aload_n dX6_next0_26 rfl ?_
      refine x_dup dX6_next0_27 rfl ?_
      refine v_geti 17 hM dX6_next0_28 (by decide) rfl q1147 ?_
      refine x_top (w := nI a) rfl ?_
      refine x_ic1 dX6_next0_31 ?_
      refine x_iaddN dX6_next0_32 ?_
      refine v_puti 17 hM dX6_next0_33 (by decide) rfl q1147 rfl rfl rfl ?_
      refine x_eqM (congrArg (fun z => tv g M z w) tS4_17) ?_
      refine x_goto (tgt := 0) dX6_next0_36 (by decide) ?_
      have hp : isSp (sq (T 7) t a) := Or.inl hc10
      have h5 := sq_lt (isSp_n hp)
      rw [spL, if_pos hp] at kk
      exact ih (a + 1) (by omega) (by omega) kk
    · refine x_aload_n dX6_next0_13 rfl ?_
      refine x_aload_n dX6_next0_14 rfl ?_
      refine v_geti 17 hM dX6_next0_15 (by decide) rfl q1147 ?_
      refine x_top (w := nI a) rfl ?_
      refine v_V1ie hM dX6_next0_18 kG_X6_X6_see kP_X6_see rfl (by omega) (by decide) (Nat.le_of_ble_eq_true rfl) (c_see (T := tS4 T (nI a) (y) (z) (v)) (w := w) hM ht htl (by omega) rfl) ?_
      refine x_top (w := sq (T 7) t a) rfl ?_
      refine x_bipush (v := nI 10) dX6_next0_21 (by decide) ?_
      refine x_icmp_ne (tgt := 39) dX6_next0_23 (by decide) (fun hc23 => ?_) (fun hc23 => ?_)
      · have hp : ¬ isSp (sq (T 7) t a) := fun z => z.elim hc10 hc23
        rw [spL, if_neg hp] at kk
        exact kk
      · refine x_aload_n dX6_next0_26 rfl ?_
        refine x_dup dX6_next0_27 rfl ?_
        refine v_geti 17 hM dX6_next0_28 (by decide) rfl q1147 ?_
        refine x_top (w := nI a) rfl ?_
        refine x_ic1 dX6_next0_31 ?_
        refine x_iaddN dX6_next0_32 ?_
        refine v_puti 17 hM dX6_next0_33 (by decide) rfl q1147 rfl rfl rfl ?_
        refine x_eqM (congrArg (fun z => tv g M z w) tS4_17) ?_
        refine x_goto (tgt := 0) dX6_next0_36 (by decide) ?_
        have hp : isSp (sq (T 7) t a) := Or.inr hc23
        have h5 := sq_lt (isSp_n hp)
        rw [spL, if_pos hp] at kk
        exact ih (a + 1) (by omega) (by omega) kk
theorem kG_X6_X6_isLetter : GoodIn lw_all (va_wsS RX6 145 yX6_isLetter (ws_ yX6_isLetter cX6_isLetter 1 (some .boolean))) := lw_S q1271 q1272 q124 q1273
theorem kP_X6_isLetter : kPar yX6_isLetter 1 := by decide +kernel
set_option maxHeartbeats 1000000 in
theorem l_nxB {n0 s0 : Nat} {Q : Outcome → fc_M → Prop} {d : Nat} {o1 o2 : Option Value} (hd9 : 8 ≤ d) (hM : tw0 + 17 ≤ fc_nx M) {t : Nat} (ht : T 0 16 = nI t) (htl : t ≤ 400) {y z v : Int32} : ∀ (k a : Nat), a ≤ t → t < a + k → fc_X g l yX6_next0 cX6_next0 3 (none) d n0 s0 (tv g M (tS4 T (nI (leL (T 7) t k a)) (y) (z) (v)) w) 103 [some (.ref (fc_B g + tw0)), o1, o2] [] (Q) → fc_X g l yX6_next0 cX6_next0 3 (none) d n0 s0 (tv g M (tS4 T (nI a) (y) (z) (v)) w) 76 [some (.ref (fc_B g + tw0)), o1, o2] [] (Q) := by
  intro k
  induction k with
  | zero => intro a h1 h2 kk; omega
  | succ k ih =>
    intro a h1 h2 kk
    refine x_aload_n dX6_next0_76 rfl ?_
    refine x_aload_n dX6_next0_77 rfl ?_
    refine v_geti 17 hM dX6_next0_78 (by decide) rfl q1147 ?_
    refine x_top (w := nI a) rfl ?_
    refine v_V1ie hM dX6_next0_81 kG_X6_X6_see kP_X6_see rfl (by omega) (by decide) (Nat.le_of_ble_eq_true rfl) (c_see (T := tS4 T (nI a) (y) (z) (v)) (w := w) hM ht htl (by omega) rfl) ?_
    refine x_top (w := sq (T 7) t a) rfl ?_
    refine v_S1ie dX6_next0_84 kG_X6_X6_isLetter kP_X6_isLetter (by omega) (by decide) (Nat.le_of_ble_eq_true rfl) c_isLetter ?_
    refine x_ifB_eq (tgt := 103) dX6_next0_87 (by decide) (fun hc87 => ?_) (fun hc87 => ?_)
    · rw [leL, if_neg hc87] at kk
      exact kk
    · refine x_aload_n dX6_next0_90 rfl ?_
      refine x_dup dX6_next0_91 rfl ?_
      refine v_geti 17 hM dX6_next0_92 (by decide) rfl q1147 ?_
      refine x_top (w := nI a) rfl ?_
      refine x_ic1 dX6_next0_95 ?_
      refine x_iaddN dX6_next0_96 ?_
      refine v_puti 17 hM dX6_next0_97 (by decide) rfl q1147 rfl rfl rfl ?_
      refine x_eqM (congrArg (fun z => tv g M z w) tS4_17) ?_
      refine x_goto (tgt := 76) dX6_next0_100 (by decide) ?_
      have h5 := sq_lt (isLe_n hc87)
      rw [leL, if_pos hc87] at kk
      exact ih (a + 1) (by omega) (by omega) kk
theorem kG_X6_X6_isDigit : GoodIn lw_all (va_wsS RX6 152 yX6_isDigit (ws_ yX6_isDigit cX6_isDigit 1 (some .boolean))) := lw_S q1310 q1311 q124 q1312
theorem kP_X6_isDigit : kPar yX6_isDigit 1 := by decide +kernel
set_option maxHeartbeats 1000000 in
theorem l_nxD {n0 s0 : Nat} {Q : Outcome → fc_M → Prop} {d : Nat} {o1 o2 : Option Value} (hd9 : 8 ≤ d) (hM : tw0 + 17 ≤ fc_nx M) {t : Nat} (ht : T 0 16 = nI t) (htl : t ≤ 400) {s : Nat} {y : Int32} (hs : s ≤ 400) : ∀ (k a : Nat) (v : Int32), a ≤ t → t < a + k → fc_X g l yX6_next0 cX6_next0 3 (none) d n0 s0 (tv g M (tS4 T (nI (diL (T 7) t s k a v).1) (y) (nI s) ((diL (T 7) t s k a v).2)) w) 189 [some (.ref (fc_B g + tw0)), o1, o2] [] (Q) → fc_X g l yX6_next0 cX6_next0 3 (none) d n0 s0 (tv g M (tS4 T (nI a) (y) (nI s) (v)) w) 126 [some (.ref (fc_B g + tw0)), o1, o2] [] (Q) := by
  intro k
  induction k with
  | zero => intro a v h1 h2 kk; omega
  | succ k ih =>
    intro a v h1 h2 kk
    refine x_aload_n dX6_next0_126 rfl ?_
    refine x_aload_n dX6_next0_127 rfl ?_
    refine v_geti 17 hM dX6_next0_128 (by decide) rfl q1147 ?_
    refine x_top (w := nI a) rfl ?_
    refine v_V1ie hM dX6_next0_131 kG_X6_X6_see kP_X6_see rfl (by omega) (by decide) (Nat.le_of_ble_eq_true rfl) (c_see (T := tS4 T (nI a) (y) (nI s) (v)) (w := w) hM ht htl (by omega) rfl) ?_
    refine x_top (w := sq (T 7) t a) rfl ?_
    refine v_S1ie dX6_next0_134 kG_X6_X6_isDigit kP_X6_isDigit (by omega) (by decide) (Nat.le_of_ble_eq_true rfl) c_isDigit ?_
    refine x_ifB_eq (tgt := 189) dX6_next0_137 (by decide) (fun hc137 => ?_) (fun hc137 => ?_)
    · rw [diL, if_neg hc137] at kk
      exact kk
    · refine x_aload_n dX6_next0_140 rfl ?_
      refine v_geti 17 hM dX6_next0_141 (by decide) rfl q1147 ?_
      refine x_top (w := nI a) rfl ?_
      refine x_aload_n dX6_next0_144 rfl ?_
      refine v_geti 19 hM dX6_next0_145 (by decide) rfl q1149 ?_
      refine x_top (w := nI s) rfl ?_
      refine x_ic4 dX6_next0_148 ?_
      refine x_iaddN dX6_next0_149 ?_
      refine x_icmpN_ge (tgt := 176) dX6_next0_150 (by decide) (by omega) (by omega) (fun hc150 => ?_) (fun hc150 => ?_)
      · refine x_aload_n dX6_next0_176 rfl ?_
        refine x_dup dX6_next0_177 rfl ?_
        refine v_geti 17 hM dX6_next0_178 (by decide) rfl q1147 ?_
        refine x_top (w := nI a) rfl ?_
        refine x_ic1 dX6_next0_181 ?_
        refine x_iaddN dX6_next0_182 ?_
        refine v_puti 17 hM dX6_next0_183 (by decide) rfl q1147 rfl rfl rfl ?_
        refine x_eqM (congrArg (fun z => tv g M z w) tS4_17) ?_
        refine x_goto (tgt := 126) dX6_next0_186 (by decide) ?_
        have h5 := sq_lt (isDi_n hc137)
        rw [diL, if_pos hc137, if_neg (Nat.not_lt.mpr hc150)] at kk
        exact ih (a + 1) _ (by omega) (by omega) kk
      · refine x_aload_n dX6_next0_153 rfl ?_
        refine x_bipush (v := nI 10) dX6_next0_154 (by decide) ?_
        refine x_aload_n dX6_next0_156 rfl ?_
        refine v_geti 20 hM dX6_next0_157 (by decide) rfl q1150 ?_
        refine x_top (w := v) rfl ?_
        refine x_imul dX6_next0_160 ?_
        refine x_aload_n dX6_next0_161 rfl ?_
        refine x_aload_n dX6_next0_162 rfl ?_
        refine v_geti 17 hM dX6_next0_163 (by decide) rfl q1147 ?_
        refine x_top (w := nI a) rfl ?_
        refine v_V1ie hM dX6_next0_166 kG_X6_X6_see kP_X6_see rfl (by omega) (by decide) (Nat.le_of_ble_eq_true rfl) (c_see (T := tS4 T (nI a) (y) (nI s) (v)) (w := w) hM ht htl (by omega) rfl) ?_
        refine x_top (w := sq (T 7) t a) rfl ?_
        refine x_iadd dX6_next0_169 ?_
        refine x_bipush (v := nI 48) dX6_next0_170 (by decide) ?_
        refine x_isub dX6_next0_172 ?_
        refine v_puti 20 hM dX6_next0_173 (by decide) rfl q1150 rfl rfl rfl ?_
        refine x_eqM (congrArg (fun z => tv g M z w) tS4_20) ?_
        refine x_aload_n dX6_next0_176 rfl ?_
        refine x_dup dX6_next0_177 rfl ?_
        refine v_geti 17 hM dX6_next0_178 (by decide) rfl q1147 ?_
        refine x_top (w := nI a) rfl ?_
        refine x_ic1 dX6_next0_181 ?_
        refine x_iaddN dX6_next0_182 ?_
        refine v_puti 17 hM dX6_next0_183 (by decide) rfl q1147 rfl rfl rfl ?_
        refine x_eqM (congrArg (fun z => tv g M z w) tS4_17) ?_
        refine x_goto (tgt := 126) dX6_next0_186 (by decide) ?_
        have h5 := sq_lt (isDi_n hc137)
        rw [diL, if_pos hc137, if_pos hc150] at kk
        exact ih (a + 1) _ (by omega) (by omega) kk
theorem kG_X6_X6_word : GoodIn lw_all (wsV RX6 149 RX6 yX6_word (ws_ yX6_word cX6_word 1 (some .int))) := lw_V q1274 q1276 qs52 q124 q1277
theorem kP_X6_word : kPar yX6_word 0 := by decide +kernel
set_option maxHeartbeats 1000000 in
theorem c_next0 (hM : tw0 + 17 ≤ fc_nx M) {t : Nat} (ht : T 0 16 = nI t) (htl : t ≤ 400) {a : Nat} (h17 : T 0 17 = nI a) (ha : a ≤ t) : fc_CX g l yX6_next0 cX6_next0 3 (none) 8 [.ref (fc_B g + tw0)] (tv g M T w) (tv_ve g M (tSk T (nxK (T 0 11) (T 7) t a (T 0 20))) w) := by
  refine fc_enter (by decide) (Nat.le_of_ble_eq_true rfl) rfl ?_
  refine x_eqM (congrArg (fun z => tv g M z w) (show T = tS4 T (nI a) (T 0 18) (T 0 19) (T 0 20) from (h17 ▸ tS4_self (T := T)).symm)) ?_
  refine l_nxA (by omega) hM ht htl 401 a (by omega) (by omega) ?_
  have hsl := spL_le (b := T 7) (t := t) 401 a ha
  generalize es : spL (T 7) t 401 a = s at hsl ⊢
  refine x_aload_n dX6_next0_39 rfl ?_
  refine x_aload_n dX6_next0_40 rfl ?_
  refine v_geti 17 hM dX6_next0_41 (by decide) rfl q1147 ?_
  refine x_top (w := nI s) rfl ?_
  refine v_puti 19 hM dX6_next0_44 (by decide) rfl q1149 rfl rfl rfl ?_
  refine x_eqM (congrArg (fun z => tv g M z w) tS4_19) ?_
  refine x_aload_n dX6_next0_47 rfl ?_
  refine x_aload_n dX6_next0_48 rfl ?_
  refine v_geti 17 hM dX6_next0_49 (by decide) rfl q1147 ?_
  refine x_top (w := nI s) rfl ?_
  refine v_V1ie hM dX6_next0_52 kG_X6_X6_see kP_X6_see rfl (by omega) (by decide) (Nat.le_of_ble_eq_true rfl) (c_see (T := tS4 T (nI s) (T 0 18) (nI s) (T 0 20)) (w := w) hM ht htl (by omega) rfl) ?_
  refine x_top (w := sq (T 7) t s) rfl ?_
  refine x_istore_n dX6_next0_55 (by decide) rfl ?_
  refine x_iload_n dX6_next0_56 rfl ?_
  refine x_icm1 dX6_next0_57 ?_
  refine x_icmp_ne (tgt := 69) dX6_next0_58 (by decide) (fun hc58 => ?_) (fun hc58 => ?_)
  · refine x_iload_n dX6_next0_69 rfl ?_
    refine v_S1ie dX6_next0_70 kG_X6_X6_isLetter kP_X6_isLetter (by omega) (by decide) (Nat.le_of_ble_eq_true rfl) c_isLetter ?_
    refine x_ifB_eq (tgt := 114) dX6_next0_73 (by decide) (fun hc73 => ?_) (fun hc73 => ?_)
    · refine x_iload_n dX6_next0_114 rfl ?_
      refine v_S1ie dX6_next0_115 kG_X6_X6_isDigit kP_X6_isDigit (by omega) (by decide) (Nat.le_of_ble_eq_true rfl) c_isDigit ?_
      refine x_ifB_eq (tgt := 214) dX6_next0_118 (by decide) (fun hc118 => ?_) (fun hc118 => ?_)
      · refine x_aload_n dX6_next0_214 rfl ?_
        refine x_dup dX6_next0_215 rfl ?_
        refine v_geti 17 hM dX6_next0_216 (by decide) rfl q1147 ?_
        refine x_top (w := nI s) rfl ?_
        refine x_ic1 dX6_next0_219 ?_
        refine x_iaddN dX6_next0_220 ?_
        refine v_puti 17 hM dX6_next0_221 (by decide) rfl q1147 rfl rfl rfl ?_
        refine x_eqM (congrArg (fun z => tv g M z w) tS4_17) ?_
        refine x_iload_n dX6_next0_224 rfl ?_
        refine x_bipush (v := nI 59) dX6_next0_225 (by decide) ?_
        refine x_icmp_eq (tgt := 284) dX6_next0_227 (by decide) (fun hc227 => ?_) (fun hc227 => ?_)
        · refine x_ic1 dX6_next0_284 ?_
          refine x_goto (tgt := 289) dX6_next0_285 (by decide) ?_
          refine x_istore_n dX6_next0_289 (by decide) rfl ?_
          refine x_aload_n dX6_next0_290 rfl ?_
          refine x_iload_n dX6_next0_291 rfl ?_
          refine x_ifN_eq (tgt := 302) dX6_next0_292 (by decide) (by omega) (fun hc292 => ?_) (fun hc292 => ?_)
          · exact absurd hc292 (by decide)
          · refine x_bipush (v := nI 100) dX6_next0_295 (by decide) ?_
            refine x_iload_n dX6_next0_297 rfl ?_
            refine x_iadd dX6_next0_298 ?_
            refine x_goto (tgt := 303) dX6_next0_299 (by decide) ?_
            refine v_puti 18 hM dX6_next0_303 (by decide) rfl q1148 rfl rfl rfl ?_
            refine x_eqM (congrArg (fun z => tv g M z w) tS4_18) ?_
            have e9 : nxK (T 0 11) (T 7) t a (T 0 20) = (s, s + 1, nI 100 + sq (T 7) t s, T 0 20) := by rw [nxK, es, nxC, if_neg hc58, if_neg hc73, if_neg hc118, if_pos (show isSg (sq (T 7) t s) from Or.inl hc227)]
            exact x_vret dX6_next0_306 rfl (tv_v2 (congrArg (tSk T) e9.symm) rfl)
        · refine x_iload_n dX6_next0_230 rfl ?_
          refine x_bipush (v := nI 43) dX6_next0_231 (by decide) ?_
          refine x_icmp_eq (tgt := 284) dX6_next0_233 (by decide) (fun hc233 => ?_) (fun hc233 => ?_)
          · refine x_ic1 dX6_next0_284 ?_
            refine x_goto (tgt := 289) dX6_next0_285 (by decide) ?_
            refine x_istore_n dX6_next0_289 (by decide) rfl ?_
            refine x_aload_n dX6_next0_290 rfl ?_
            refine x_iload_n dX6_next0_291 rfl ?_
            refine x_ifN_eq (tgt := 302) dX6_next0_292 (by decide) (by omega) (fun hc292 => ?_) (fun hc292 => ?_)
            · exact absurd hc292 (by decide)
            · refine x_bipush (v := nI 100) dX6_next0_295 (by decide) ?_
              refine x_iload_n dX6_next0_297 rfl ?_
              refine x_iadd dX6_next0_298 ?_
              refine x_goto (tgt := 303) dX6_next0_299 (by decide) ?_
              refine v_puti 18 hM dX6_next0_303 (by decide) rfl q1148 rfl rfl rfl ?_
              refine x_eqM (congrArg (fun z => tv g M z w) tS4_18) ?_
              have e9 : nxK (T 0 11) (T 7) t a (T 0 20) = (s, s + 1, nI 100 + sq (T 7) t s, T 0 20) := by rw [nxK, es, nxC, if_neg hc58, if_neg hc73, if_neg hc118, if_pos (show isSg (sq (T 7) t s) from Or.inr (Or.inl hc233))]
              exact x_vret dX6_next0_306 rfl (tv_v2 (congrArg (tSk T) e9.symm) rfl)
          · refine x_iload_n dX6_next0_236 rfl ?_
            refine x_bipush (v := nI 45) dX6_next0_237 (by decide) ?_
            refine x_icmp_eq (tgt := 284) dX6_next0_239 (by decide) (fun hc239 => ?_) (fun hc239 => ?_)
            · refine x_ic1 dX6_next0_284 ?_
              refine x_goto (tgt := 289) dX6_next0_285 (by decide) ?_
              refine x_istore_n dX6_next0_289 (by decide) rfl ?_
              refine x_aload_n dX6_next0_290 rfl ?_
              refine x_iload_n dX6_next0_291 rfl ?_
              refine x_ifN_eq (tgt := 302) dX6_next0_292 (by decide) (by omega) (fun hc292 => ?_) (fun hc292 => ?_)
              · exact absurd hc292 (by decide)
              · refine x_bipush (v := nI 100) dX6_next0_295 (by decide) ?_
                refine x_iload_n dX6_next0_297 rfl ?_
                refine x_iadd dX6_next0_298 ?_
                refine x_goto (tgt := 303) dX6_next0_299 (by decide) ?_
                refine v_puti 18 hM dX6_next0_303 (by decide) rfl q1148 rfl rfl rfl ?_
                refine x_eqM (congrArg (fun z => tv g M z w) tS4_18) ?_
                have e9 : nxK (T 0 11) (T 7) t a (T 0 20) = (s, s + 1, nI 100 + sq (T 7) t s, T 0 20) := by rw [nxK, es, nxC, if_neg hc58, if_neg hc73, if_neg hc118, if_pos (show isSg (sq (T 7) t s) from Or.inr (Or.inr (Or.inl hc239)))]
                exact x_vret dX6_next0_306 rfl (tv_v2 (congrArg (tSk T) e9.symm) rfl)
            · refine x_iload_n dX6_next0_242 rfl ?_
              refine x_bipush (v := nI 42) dX6_next0_243 (by decide) ?_
              refine x_icmp_eq (tgt := 284) dX6_next0_245 (by decide) (fun hc245 => ?_) (fun hc245 => ?_)
              · refine x_ic1 dX6_next0_284 ?_
                refine x_goto (tgt := 289) dX6_next0_285 (by decide) ?_
                refine x_istore_n dX6_next0_289 (by decide) rfl ?_
                refine x_aload_n dX6_next0_290 rfl ?_
                refine x_iload_n dX6_next0_291 rfl ?_
                refine x_ifN_eq (tgt := 302) dX6_next0_292 (by decide) (by omega) (fun hc292 => ?_) (fun hc292 => ?_)
                · exact absurd hc292 (by decide)
                · refine x_bipush (v := nI 100) dX6_next0_295 (by decide) ?_
                  refine x_iload_n dX6_next0_297 rfl ?_
                  refine x_iadd dX6_next0_298 ?_
                  refine x_goto (tgt := 303) dX6_next0_299 (by decide) ?_
                  refine v_puti 18 hM dX6_next0_303 (by decide) rfl q1148 rfl rfl rfl ?_
                  refine x_eqM (congrArg (fun z => tv g M z w) tS4_18) ?_
                  have e9 : nxK (T 0 11) (T 7) t a (T 0 20) = (s, s + 1, nI 100 + sq (T 7) t s, T 0 20) := by rw [nxK, es, nxC, if_neg hc58, if_neg hc73, if_neg hc118, if_pos (show isSg (sq (T 7) t s) from Or.inr (Or.inr (Or.inr (Or.inl hc245))))]
                  exact x_vret dX6_next0_306 rfl (tv_v2 (congrArg (tSk T) e9.symm) rfl)
              · refine x_iload_n dX6_next0_248 rfl ?_
                refine x_bipush (v := nI 47) dX6_next0_249 (by decide) ?_
                refine x_icmp_eq (tgt := 284) dX6_next0_251 (by decide) (fun hc251 => ?_) (fun hc251 => ?_)
                · refine x_ic1 dX6_next0_284 ?_
                  refine x_goto (tgt := 289) dX6_next0_285 (by decide) ?_
                  refine x_istore_n dX6_next0_289 (by decide) rfl ?_
                  refine x_aload_n dX6_next0_290 rfl ?_
                  refine x_iload_n dX6_next0_291 rfl ?_
                  refine x_ifN_eq (tgt := 302) dX6_next0_292 (by decide) (by omega) (fun hc292 => ?_) (fun hc292 => ?_)
                  · exact absurd hc292 (by decide)
                  · refine x_bipush (v := nI 100) dX6_next0_295 (by decide) ?_
                    refine x_iload_n dX6_next0_297 rfl ?_
                    refine x_iadd dX6_next0_298 ?_
                    refine x_goto (tgt := 303) dX6_next0_299 (by decide) ?_
                    refine v_puti 18 hM dX6_next0_303 (by decide) rfl q1148 rfl rfl rfl ?_
                    refine x_eqM (congrArg (fun z => tv g M z w) tS4_18) ?_
                    have e9 : nxK (T 0 11) (T 7) t a (T 0 20) = (s, s + 1, nI 100 + sq (T 7) t s, T 0 20) := by rw [nxK, es, nxC, if_neg hc58, if_neg hc73, if_neg hc118, if_pos (show isSg (sq (T 7) t s) from Or.inr (Or.inr (Or.inr (Or.inr (Or.inl hc251)))))]
                    exact x_vret dX6_next0_306 rfl (tv_v2 (congrArg (tSk T) e9.symm) rfl)
                · refine x_iload_n dX6_next0_254 rfl ?_
                  refine x_bipush (v := nI 40) dX6_next0_255 (by decide) ?_
                  refine x_icmp_eq (tgt := 284) dX6_next0_257 (by decide) (fun hc257 => ?_) (fun hc257 => ?_)
                  · refine x_ic1 dX6_next0_284 ?_
                    refine x_goto (tgt := 289) dX6_next0_285 (by decide) ?_
                    refine x_istore_n dX6_next0_289 (by decide) rfl ?_
                    refine x_aload_n dX6_next0_290 rfl ?_
                    refine x_iload_n dX6_next0_291 rfl ?_
                    refine x_ifN_eq (tgt := 302) dX6_next0_292 (by decide) (by omega) (fun hc292 => ?_) (fun hc292 => ?_)
                    · exact absurd hc292 (by decide)
                    · refine x_bipush (v := nI 100) dX6_next0_295 (by decide) ?_
                      refine x_iload_n dX6_next0_297 rfl ?_
                      refine x_iadd dX6_next0_298 ?_
                      refine x_goto (tgt := 303) dX6_next0_299 (by decide) ?_
                      refine v_puti 18 hM dX6_next0_303 (by decide) rfl q1148 rfl rfl rfl ?_
                      refine x_eqM (congrArg (fun z => tv g M z w) tS4_18) ?_
                      have e9 : nxK (T 0 11) (T 7) t a (T 0 20) = (s, s + 1, nI 100 + sq (T 7) t s, T 0 20) := by rw [nxK, es, nxC, if_neg hc58, if_neg hc73, if_neg hc118, if_pos (show isSg (sq (T 7) t s) from Or.inr (Or.inr (Or.inr (Or.inr (Or.inr (Or.inl hc257))))))]
                      exact x_vret dX6_next0_306 rfl (tv_v2 (congrArg (tSk T) e9.symm) rfl)
                  · refine x_iload_n dX6_next0_260 rfl ?_
                    refine x_bipush (v := nI 41) dX6_next0_261 (by decide) ?_
                    refine x_icmp_eq (tgt := 284) dX6_next0_263 (by decide) (fun hc263 => ?_) (fun hc263 => ?_)
                    · refine x_ic1 dX6_next0_284 ?_
                      refine x_goto (tgt := 289) dX6_next0_285 (by decide) ?_
                      refine x_istore_n dX6_next0_289 (by decide) rfl ?_
                      refine x_aload_n dX6_next0_290 rfl ?_
                      refine x_iload_n dX6_next0_291 rfl ?_
                      refine x_ifN_eq (tgt := 302) dX6_next0_292 (by decide) (by omega) (fun hc292 => ?_) (fun hc292 => ?_)
                      · exact absurd hc292 (by decide)
                      · refine x_bipush (v := nI 100) dX6_next0_295 (by decide) ?_
                        refine x_iload_n dX6_next0_297 rfl ?_
                        refine x_iadd dX6_next0_298 ?_
                        refine x_goto (tgt := 303) dX6_next0_299 (by decide) ?_
                        refine v_puti 18 hM dX6_next0_303 (by decide) rfl q1148 rfl rfl rfl ?_
                        refine x_eqM (congrArg (fun z => tv g M z w) tS4_18) ?_
                        have e9 : nxK (T 0 11) (T 7) t a (T 0 20) = (s, s + 1, nI 100 + sq (T 7) t s, T 0 20) := by rw [nxK, es, nxC, if_neg hc58, if_neg hc73, if_neg hc118, if_pos (show isSg (sq (T 7) t s) from Or.inr (Or.inr (Or.inr (Or.inr (Or.inr (Or.inr (Or.inl hc263)))))))]
                        exact x_vret dX6_next0_306 rfl (tv_v2 (congrArg (tSk T) e9.symm) rfl)
                    · refine x_iload_n dX6_next0_266 rfl ?_
                      refine x_bipush (v := nI 60) dX6_next0_267 (by decide) ?_
                      refine x_icmp_eq (tgt := 284) dX6_next0_269 (by decide) (fun hc269 => ?_) (fun hc269 => ?_)
                      · refine x_ic1 dX6_next0_284 ?_
                        refine x_goto (tgt := 289) dX6_next0_285 (by decide) ?_
                        refine x_istore_n dX6_next0_289 (by decide) rfl ?_
                        refine x_aload_n dX6_next0_290 rfl ?_
                        refine x_iload_n dX6_next0_291 rfl ?_
                        refine x_ifN_eq (tgt := 302) dX6_next0_292 (by decide) (by omega) (fun hc292 => ?_) (fun hc292 => ?_)
                        · exact absurd hc292 (by decide)
                        · refine x_bipush (v := nI 100) dX6_next0_295 (by decide) ?_
                          refine x_iload_n dX6_next0_297 rfl ?_
                          refine x_iadd dX6_next0_298 ?_
                          refine x_goto (tgt := 303) dX6_next0_299 (by decide) ?_
                          refine v_puti 18 hM dX6_next0_303 (by decide) rfl q1148 rfl rfl rfl ?_
                          refine x_eqM (congrArg (fun z => tv g M z w) tS4_18) ?_
                          have e9 : nxK (T 0 11) (T 7) t a (T 0 20) = (s, s + 1, nI 100 + sq (T 7) t s, T 0 20) := by rw [nxK, es, nxC, if_neg hc58, if_neg hc73, if_neg hc118, if_pos (show isSg (sq (T 7) t s) from Or.inr (Or.inr (Or.inr (Or.inr (Or.inr (Or.inr (Or.inr (Or.inl hc269))))))))]
                          exact x_vret dX6_next0_306 rfl (tv_v2 (congrArg (tSk T) e9.symm) rfl)
                      · refine x_iload_n dX6_next0_272 rfl ?_
                        refine x_bipush (v := nI 61) dX6_next0_273 (by decide) ?_
                        refine x_icmp_eq (tgt := 284) dX6_next0_275 (by decide) (fun hc275 => ?_) (fun hc275 => ?_)
                        · refine x_ic1 dX6_next0_284 ?_
                          refine x_goto (tgt := 289) dX6_next0_285 (by decide) ?_
                          refine x_istore_n dX6_next0_289 (by decide) rfl ?_
                          refine x_aload_n dX6_next0_290 rfl ?_
                          refine x_iload_n dX6_next0_291 rfl ?_
                          refine x_ifN_eq (tgt := 302) dX6_next0_292 (by decide) (by omega) (fun hc292 => ?_) (fun hc292 => ?_)
                          · exact absurd hc292 (by decide)
                          · refine x_bipush (v := nI 100) dX6_next0_295 (by decide) ?_
                            refine x_iload_n dX6_next0_297 rfl ?_
                            refine x_iadd dX6_next0_298 ?_
                            refine x_goto (tgt := 303) dX6_next0_299 (by decide) ?_
                            refine v_puti 18 hM dX6_next0_303 (by decide) rfl q1148 rfl rfl rfl ?_
                            refine x_eqM (congrArg (fun z => tv g M z w) tS4_18) ?_
                            have e9 : nxK (T 0 11) (T 7) t a (T 0 20) = (s, s + 1, nI 100 + sq (T 7) t s, T 0 20) := by rw [nxK, es, nxC, if_neg hc58, if_neg hc73, if_neg hc118, if_pos (show isSg (sq (T 7) t s) from Or.inr (Or.inr (Or.inr (Or.inr (Or.inr (Or.inr (Or.inr (Or.inr (Or.inl hc275)))))))))]
                            exact x_vret dX6_next0_306 rfl (tv_v2 (congrArg (tSk T) e9.symm) rfl)
                        · refine x_iload_n dX6_next0_278 rfl ?_
                          refine x_bipush (v := nI 62) dX6_next0_279 (by decide) ?_
                          refine x_icmp_ne (tgt := 288) dX6_next0_281 (by decide) (fun hc281 => ?_) (fun hc281 => ?_)
                          · refine x_ic0 dX6_next0_288 ?_
                            refine x_istore_n dX6_next0_289 (by decide) rfl ?_
                            refine x_aload_n dX6_next0_290 rfl ?_
                            refine x_iload_n dX6_next0_291 rfl ?_
                            refine x_ifN_eq (tgt := 302) dX6_next0_292 (by decide) (by omega) (fun hc292 => ?_) (fun hc292 => ?_)
                            · refine x_ic1 dX6_next0_302 ?_
                              refine v_puti 18 hM dX6_next0_303 (by decide) rfl q1148 rfl rfl rfl ?_
                              refine x_eqM (congrArg (fun z => tv g M z w) tS4_18) ?_
                              have e9 : nxK (T 0 11) (T 7) t a (T 0 20) = (s, s + 1, nI 1, T 0 20) := by rw [nxK, es, nxC, if_neg hc58, if_neg hc73, if_neg hc118, if_neg (show ¬ isSg (sq (T 7) t s) from (fun z => z.elim hc227 (fun z => z.elim hc233 (fun z => z.elim hc239 (fun z => z.elim hc245 (fun z => z.elim hc251 (fun z => z.elim hc257 (fun z => z.elim hc263 (fun z => z.elim hc269 (fun z => z.elim hc275 hc281))))))))))]
                              exact x_vret dX6_next0_306 rfl (tv_v2 (congrArg (tSk T) e9.symm) rfl)
                            · exact absurd hc292 (by decide)
                          · refine x_ic1 dX6_next0_284 ?_
                            refine x_goto (tgt := 289) dX6_next0_285 (by decide) ?_
                            refine x_istore_n dX6_next0_289 (by decide) rfl ?_
                            refine x_aload_n dX6_next0_290 rfl ?_
                            refine x_iload_n dX6_next0_291 rfl ?_
                            refine x_ifN_eq (tgt := 302) dX6_next0_292 (by decide) (by omega) (fun hc292 => ?_) (fun hc292 => ?_)
                            · exact absurd hc292 (by decide)
                            · refine x_bipush (v := nI 100) dX6_next0_295 (by decide) ?_
                              refine x_iload_n dX6_next0_297 rfl ?_
                              refine x_iadd dX6_next0_298 ?_
                              refine x_goto (tgt := 303) dX6_next0_299 (by decide) ?_
                              refine v_puti 18 hM dX6_next0_303 (by decide) rfl q1148 rfl rfl rfl ?_
                              refine x_eqM (congrArg (fun z => tv g M z w) tS4_18) ?_
                              have e9 : nxK (T 0 11) (T 7) t a (T 0 20) = (s, s + 1, nI 100 + sq (T 7) t s, T 0 20) := by rw [nxK, es, nxC, if_neg hc58, if_neg hc73, if_neg hc118, if_pos (show isSg (sq (T 7) t s) from Or.inr (Or.inr (Or.inr (Or.inr (Or.inr (Or.inr (Or.inr (Or.inr (Or.inr (hc281))))))))))]
                              exact x_vret dX6_next0_306 rfl (tv_v2 (congrArg (tSk T) e9.symm) rfl)
      · refine x_aload_n dX6_next0_121 rfl ?_
        refine x_ic0 dX6_next0_122 ?_
        refine v_puti 20 hM dX6_next0_123 (by decide) rfl q1150 rfl rfl rfl ?_
        refine x_eqM (congrArg (fun z => tv g M z w) tS4_20) ?_
        refine l_nxD (by omega) hM ht htl (by omega) 401 s (nI 0) (by omega) (by omega) ?_
        have hel := diL_le (b := T 7) (t := t) (s := s) 401 s (nI 0) (by omega)
        generalize ed : diL (T 7) t s 401 s (nI 0) = q at hel ⊢
        refine x_aload_n dX6_next0_189 rfl ?_
        refine x_aload_n dX6_next0_190 rfl ?_
        refine v_geti 17 hM dX6_next0_191 (by decide) rfl q1147 ?_
        refine x_top (w := nI q.1) rfl ?_
        refine x_aload_n dX6_next0_194 rfl ?_
        refine v_geti 19 hM dX6_next0_195 (by decide) rfl q1149 ?_
        refine x_top (w := nI s) rfl ?_
        refine x_isubN dX6_next0_198 (by omega) ?_
        refine x_ic5 dX6_next0_199 ?_
        refine x_icmpN_ge (tgt := 207) dX6_next0_200 (by decide) (by omega) (by omega) (fun hc200 => ?_) (fun hc200 => ?_)
        · refine x_ic1 dX6_next0_207 ?_
          refine v_puti 18 hM dX6_next0_208 (by decide) rfl q1148 rfl rfl rfl ?_
          refine x_eqM (congrArg (fun z => tv g M z w) tS4_18) ?_
          refine x_goto (tgt := 306) dX6_next0_211 (by decide) ?_
          have e9 : nxK (T 0 11) (T 7) t a (T 0 20) = (s, q.1, nI 1, q.2) := by rw [nxK, es, nxC, if_neg hc58, if_neg hc73, if_pos hc118, ed, if_neg (Nat.not_lt.mpr hc200)]
          exact x_vret dX6_next0_306 rfl (tv_v2 (congrArg (tSk T) e9.symm) rfl)
        · refine x_ic2 dX6_next0_203 ?_
          refine x_goto (tgt := 208) dX6_next0_204 (by decide) ?_
          refine v_puti 18 hM dX6_next0_208 (by decide) rfl q1148 rfl rfl rfl ?_
          refine x_eqM (congrArg (fun z => tv g M z w) tS4_18) ?_
          refine x_goto (tgt := 306) dX6_next0_211 (by decide) ?_
          have e9 : nxK (T 0 11) (T 7) t a (T 0 20) = (s, q.1, nI 2, q.2) := by rw [nxK, es, nxC, if_neg hc58, if_neg hc73, if_pos hc118, ed, if_pos hc200]
          exact x_vret dX6_next0_306 rfl (tv_v2 (congrArg (tSk T) e9.symm) rfl)
    · refine l_nxB (by omega) hM ht htl 401 s (by omega) (by omega) ?_
      have hel := leL_le (b := T 7) (t := t) 401 s (by omega)
      generalize ee : leL (T 7) t 401 s = e at hel ⊢
      obtain ⟨n, rfl⟩ : ∃ n, e = s + n := ⟨e - s, by omega⟩
      refine x_aload_n dX6_next0_103 rfl ?_
      refine x_aload_n dX6_next0_104 rfl ?_
      refine v_V0ie hM dX6_next0_105 kG_X6_X6_word kP_X6_word rfl (by omega) (by decide) (Nat.le_of_ble_eq_true rfl) (c_word (T := tS4 T (nI (s + n)) (T 0 18) (nI s) (T 0 20)) (w := w) hM (s := s) (n := n) rfl rfl (by omega)) ?_
      refine x_top (w := wdW (T 0 11) (T 7) s n) rfl ?_
      refine v_puti 18 hM dX6_next0_108 (by decide) rfl q1148 rfl rfl rfl ?_
      refine x_eqM (congrArg (fun z => tv g M z w) tS4_18) ?_
      refine x_goto (tgt := 306) dX6_next0_111 (by decide) ?_
      have e9 : nxK (T 0 11) (T 7) t a (T 0 20) = (s, s + n, wdW (T 0 11) (T 7) s n, T 0 20) := by rw [nxK, es, nxC, if_neg hc58, if_pos hc73, ee, Nat.add_sub_cancel_left]
      exact x_vret dX6_next0_306 rfl (tv_v2 (congrArg (tSk T) e9.symm) rfl)
  · refine x_aload_n dX6_next0_61 rfl ?_
    refine x_ic0 dX6_next0_62 ?_
    refine v_puti 18 hM dX6_next0_63 (by decide) rfl q1148 rfl rfl rfl ?_
    refine x_eqM (congrArg (fun z => tv g M z w) tS4_18) ?_
    refine x_goto (tgt := 306) dX6_next0_66 (by decide) ?_
    have e9 : nxK (T 0 11) (T 7) t a (T 0 20) = (s, s, nI 0, T 0 20) := by rw [nxK, es, nxC, if_pos hc58]
    exact x_vret dX6_next0_306 rfl (tv_v2 (congrArg (tSk T) e9.symm) rfl)
end T79
