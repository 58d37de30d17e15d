set_option maxRecDepth 100000
section T87
variable {g : fc_G} {l : Launch} {M : fc_M} {T : tT} {w : Nat → Int32} {E : tEn}
def uQ (T : tT) (w : Nat → Int32) (r : Nat) (R : Except tEr (List tLn × tLs)) (x : Int32) (T2 : tT) (w2 : Nat → Int32) : Prop := match R with
  | .error e => x = -1 ∧ uF T e.1 (nI e.2) T2 ∧ w2 = w
  | .ok y => x = nI y.1.length ∧ uF T (nI 0) (-1) T2 ∧ w2 = kRU r y.1 y.2 w
def vQ (T : tT) (w : Nat → Int32) (R : Except tEr (Nat × tXs)) (x : Int32) (T2 : tT) (w2 : Nat → Int32) : Prop := match R with
  | .error e => x = -1 ∧ uF T e.1 (nI e.2) T2 ∧ w2 = w
  | .ok y => x = nI y.1 ∧ uF T (nI 0) (-1) T2 ∧ w2 = kTU y.1 y.2 w
theorem uE_fin {T' : tT} {e : tEr} (h : uE T e T') : uF T e.1 (nI e.2) (fin3 T' (T' 0 21) (T' 0 22)) := by
  rw [h.2.1, h.2.2]
  exact uF_of h.1
def ini (T : tT) (x : Int32) : tT := tu (tu (tu (tu (tu (tu (tu T 0 21 (nI 0)) 0 11 x) 0 17 (nI 0)) 0 12 (nI 0)) 0 13 (nI 0)) 0 14 (nI 0)) 0 15 (nI 0)
def t10 (T : tT) (S : Nat → Int32) : tT := fun a k => if a = 10 then S k else T a k
theorem t10_u {S : Nat → Int32} {i : Nat} {v : Int32} : tu (t10 T S) 10 i v = t10 T (up S i v) := by
  funext a k
  by_cases h : a = 10
  · subst h; simp [tu, t10, up]
  · simp [tu, t10, h]
def s10 (T : tT) (i : Nat) : Nat → Int32 := fun k => if k < i then nI 0 else T 10 k
theorem s10_u {i : Nat} : up (s10 T i) i (nI 0) = s10 T (i + 1) := by
  funext k
  by_cases h : k = i
  · subst h
    rw [up_s, s10, if_pos (by omega)]
  · rw [up_n h]
    by_cases h2 : k < i
    · rw [s10, s10, if_pos h2, if_pos (by omega)]
    · rw [s10, s10, if_neg h2, if_neg (by omega)]
theorem t10_0 : t10 T (s10 T 0) = T := by
  funext a k
  by_cases h : a = 10
  · subst h; simp [t10, s10]
  · simp [t10, h]
theorem ini_Y {x : Int32} {S : Nat → Int32} {q : tTk} : rY T (tSk (t10 (ini T x) S) q) := by
  refine ⟨fun a k h0 h4 h5 h6 h10 => ?_, fun k hk => ?_⟩
  · simp [tSk, tS4, t10, ini, tu, h0, h10]
  · have e1 : k ≠ 21 := by omega
    have e2 : k ≠ 11 := by omega
    have e3 : k ≠ 17 := by omega
    have e4 : k ≠ 12 := by omega
    have e5 : k ≠ 13 := by omega
    have e6 : k ≠ 14 := by omega
    have e7 : k ≠ 15 := by omega
    have e8 : k ≠ 18 := by omega
    have e9 : k ≠ 19 := by omega
    have e10 : k ≠ 20 := by omega
    simp [tSk, tS4, t10, ini, tu, e1, e2, e3, e4, e5, e6, e7, e8, e9, e10]
theorem ini_I {x v : Int32} {S : Nat → Int32} {t : Nat} (ht : T 0 16 = nI t) (htl : t ≤ 400) : ∃ dep, rI (x, T 7, t) (tSk (t10 (ini T x) S) (nxK x (T 7) t 0 v)) (nxK x (T 7) t 0 v) 0 dep := by
  obtain ⟨dep, hd⟩ := nI_all (T 0 24)
  have h1 := spL_le (b := T 7) (t := t) 401 0 (Nat.zero_le t)
  have h2 := nxC_v (wh := x) (b := T 7) (v := v) h1.2
  exact ⟨dep, rX.refl, ⟨rfl, rfl, ht, htl⟩, ⟨rfl, rfl, rfl, rfl, rfl, hd, rfl⟩, ⟨fun _ _ => rfl, fun i p e => by cases e⟩, h2.1, Nat.zero_le _, Nat.le_refl _⟩
set_option maxHeartbeats 1000000 in
theorem l_txb {n0 s0 : Nat} (hM : tw0 + 17 ≤ fc_nx M) {v1 : Int32} : fc_X g l yX6_text cX6_text 3 (some .int) 43 n0 s0 (tv g M T w) 89 [some (.ref (fc_B g + tw0)), some (.int v1), some (.int (nI 0))] [] (tv_ie g M (-1) (fin3 T (T 0 21) (T 0 22)) w) := by
  refine x_iload_n dX6_text_89 rfl ?_
  refine x_ifN_eq (tgt := 138) dX6_text_90 (by decide) (by decide) (fun _ => ?_) (fun hc90 => absurd hc90 (by decide))
  refine x_aload_n dX6_text_138 rfl ?_
  refine x_ic0 dX6_text_139 ?_
  refine v_puti 16 hM dX6_text_140 (by decide) rfl q1146 rfl rfl rfl ?_
  refine x_aload_n dX6_text_143 rfl ?_
  refine x_aload_n dX6_text_144 rfl ?_
  refine v_geti 21 hM dX6_text_145 (by decide) rfl q1151 ?_
  refine x_top (w := T 0 21) rfl ?_
  refine v_puti 23 hM dX6_text_148 (by decide) rfl q1153 rfl rfl rfl ?_
  refine x_aload_n dX6_text_151 rfl ?_
  refine x_iload_n dX6_text_152 rfl ?_
  refine x_ifN_eq (tgt := 160) dX6_text_153 (by decide) (by decide) (fun _ => ?_) (fun hc153 => absurd hc153 (by decide))
  refine x_aload_n dX6_text_160 rfl ?_
  refine v_geti 22 hM dX6_text_161 (by decide) rfl q1152 ?_
  refine x_top (w := T 0 22) rfl ?_
  refine v_puti 25 hM dX6_text_164 (by decide) rfl q1155 rfl rfl rfl ?_
  refine x_iload_n dX6_text_167 rfl ?_
  refine x_ifN_ne (tgt := 173) dX6_text_168 (by decide) (by decide) (fun hc168 => absurd hc168 (by decide)) (fun _ => ?_)
  refine x_icm1 dX6_text_171 ?_
  exact x_iret dX6_text_172 rfl (by rfl) (tv_i2 rfl rfl rfl)
theorem kG_X6_X6_keepsRule : GoodIn lw_all (wsV RX6 234 RX6 yX6_keepsRule (ws_ yX6_keepsRule cX6_keepsRule 3 (none))) := lw_V q1377 q1379 qs72 q124 q1380
theorem kP_X6_keepsRule : kPar yX6_keepsRule 1 := by decide +kernel
set_option maxHeartbeats 1000000 in
theorem l_txgR {n0 s0 : Nat} (hM : tw0 + 17 ≤ fc_nx M) {r ln n : Nat} (hr : r < 3) (hl : T 0 12 = nI ln) (hln : ln ≤ 16) (hn : T 0 13 = nI n) (hnn : n ≤ 400) : fc_X g l yX6_text cX6_text 3 (some .int) 43 n0 s0 (tv g M T w) 138 [some (.ref (fc_B g + tw0)), some (.int (nI r)), some (.int (nI 1))] [] (tv_ie g M (nI ln) (fin3 T (T 0 21) (-1)) (krW (fin3 T (T 0 21) (-1)) r ln n w)) := by
  refine x_aload_n dX6_text_138 rfl ?_
  refine x_ic0 dX6_text_139 ?_
  refine v_puti 16 hM dX6_text_140 (by decide) rfl q1146 rfl rfl rfl ?_
  refine x_aload_n dX6_text_143 rfl ?_
  refine x_aload_n dX6_text_144 rfl ?_
  refine v_geti 21 hM dX6_text_145 (by decide) rfl q1151 ?_
  refine x_top (w := T 0 21) rfl ?_
  refine v_puti 23 hM dX6_text_148 (by decide) rfl q1153 rfl rfl rfl ?_
  refine x_aload_n dX6_text_151 rfl ?_
  refine x_iload_n dX6_text_152 rfl ?_
  refine x_ifN_eq (tgt := 160) dX6_text_153 (by decide) (by decide) (fun hc153 => absurd hc153 (by decide)) (fun _ => ?_)
  refine x_icm1 dX6_text_156 ?_
  refine x_goto (tgt := 164) dX6_text_157 (by decide) ?_
  refine v_puti 25 hM dX6_text_164 (by decide) rfl q1155 rfl rfl rfl ?_
  refine x_iload_n dX6_text_167 rfl ?_
  refine x_ifN_ne (tgt := 173) dX6_text_168 (by decide) (by decide) (fun _ => ?_) (fun hc168 => absurd hc168 (by decide))
  refine x_iload_n dX6_text_173 rfl ?_
  refine x_ic3 dX6_text_174 ?_
  refine x_icmpN_ge (tgt := 186) dX6_text_175 (by decide) (by omega) (by omega) (fun hc175 => ?_) (fun hc175 => ?_)
  · exact absurd hc175 (by omega)
  · refine x_aload_n dX6_text_178 rfl ?_
    refine x_iload_n dX6_text_179 rfl ?_
    refine v_V1ve hM dX6_text_180 kG_X6_X6_keepsRule kP_X6_keepsRule rfl (by omega) (by decide) (Nat.le_of_ble_eq_true rfl) (c_keepsRule (T := fin3 T (T 0 21) (-1)) (w := w) hM hr (ln := ln) (n := n) hl hln hn hnn rfl) ?_
    refine x_goto (tgt := 190) dX6_text_183 (by decide) ?_
    refine x_aload_n dX6_text_190 rfl ?_
    refine v_geti 12 hM dX6_text_191 (by decide) rfl q1142 ?_
    refine x_top (w := nI ln) hl ?_
    exact x_iret dX6_text_194 rfl (by rfl) (tv_i2 rfl rfl rfl)
theorem kG_X6_X6_keepsTower : GoodIn lw_all (wsV RX6 238 RX6 yX6_keepsTower (ws_ yX6_keepsTower cX6_keepsTower 4 (none))) := lw_V q1381 q1383 qs73 q124 q1384
theorem kP_X6_keepsTower : kPar yX6_keepsTower 0 := by decide +kernel
set_option maxHeartbeats 1000000 in
theorem l_txgT {n0 s0 : Nat} (hM : tw0 + 17 ≤ fc_nx M) {F nc ln : Nat} (hF : T 0 14 = nI F) (hF2 : F ≤ 80) (hN : T 0 15 = nI nc) (hnc : nc ≤ 4) (hl : T 0 12 = nI ln) : fc_X g l yX6_text cX6_text 3 (some .int) 43 n0 s0 (tv g M T w) 138 [some (.ref (fc_B g + tw0)), some (.int (nI 3)), some (.int (nI 1))] [] (tv_ie g M (nI ln) (fin3 T (T 0 21) (-1)) (ktW (fin3 T (T 0 21) (-1)) F nc ln w)) := by
  refine x_aload_n dX6_text_138 rfl ?_
  refine x_ic0 dX6_text_139 ?_
  refine v_puti 16 hM dX6_text_140 (by decide) rfl q1146 rfl rfl rfl ?_
  refine x_aload_n dX6_text_143 rfl ?_
  refine x_aload_n dX6_text_144 rfl ?_
  refine v_geti 21 hM dX6_text_145 (by decide) rfl q1151 ?_
  refine x_top (w := T 0 21) rfl ?_
  refine v_puti 23 hM dX6_text_148 (by decide) rfl q1153 rfl rfl rfl ?_
  refine x_aload_n dX6_text_151 rfl ?_
  refine x_iload_n dX6_text_152 rfl ?_
  refine x_ifN_eq (tgt := 160) dX6_text_153 (by decide) (by decide) (fun hc153 => absurd hc153 (by decide)) (fun _ => ?_)
  refine x_icm1 dX6_text_156 ?_
  refine x_goto (tgt := 164) dX6_text_157 (by decide) ?_
  refine v_puti 25 hM dX6_text_164 (by decide) rfl q1155 rfl rfl rfl ?_
  refine x_iload_n dX6_text_167 rfl ?_
  refine x_ifN_ne (tgt := 173) dX6_text_168 (by decide) (by decide) (fun _ => ?_) (fun hc168 => absurd hc168 (by decide))
  refine x_iload_n dX6_text_173 rfl ?_
  refine x_ic3 dX6_text_174 ?_
  refine x_icmpN_ge (tgt := 186) dX6_text_175 (by decide) (by omega) (by omega) (fun hc175 => ?_) (fun hc175 => ?_)
  · refine x_aload_n dX6_text_186 rfl ?_
    refine v_V0ve hM dX6_text_187 kG_X6_X6_keepsTower kP_X6_keepsTower rfl (by omega) (by decide) (Nat.le_of_ble_eq_true rfl) (c_keepsTower (T := fin3 T (T 0 21) (-1)) (w := w) hM (ln := ln) hF hF2 hN hnc hl) ?_
    refine x_aload_n dX6_text_190 rfl ?_
    refine v_geti 12 hM dX6_text_191 (by decide) rfl q1142 ?_
    refine x_top (w := nI ln) hl ?_
    exact x_iret dX6_text_194 rfl (by rfl) (tv_i2 rfl rfl rfl)
  · exact absurd hc175 (by omega)
theorem kG_X6_X6_aLine : GoodIn lw_all (wsV RX6 228 RX6 yX6_aLine (ws_ yX6_aLine cX6_aLine 2 (some .boolean))) := lw_V q1313 q1315 qs56 q124 q1316
theorem kP_X6_aLine : kPar yX6_aLine 0 := by decide +kernel
set_option maxHeartbeats 1000000 in
theorem l_txR {n0 s0 : Nat} (hM : tw0 + 17 ≤ fc_nx M) {r : Nat} (hr : r < 3) : ∀ (k : Nat) (T1 : tT) (q : tTk) (ls : List tLn) (ps : tLs), uR E T q ls ps T1 → E.2.2 < q.1 + k → fc_X g l yX6_text cX6_text 3 (some .int) 43 n0 s0 (tv g M T1 w) 89 [some (.ref (fc_B g + tw0)), some (.int (nI r)), some (.int (nI 1))] [] (tv_i g M (uQ T w r (pRL E k q ls ps))) := by
  intro k
  induction k with
  | zero => intro T1 q ls ps h hk; obtain ⟨dep, hI⟩ := h.2.2.2.2.1; have h8 := hI.le; omega
  | succ k ih =>
    intro T1 q ls ps h hk
    obtain ⟨dep, hI⟩ := h.2.2.2.2.1
    refine x_iload_n dX6_text_89 rfl ?_
    refine x_ifN_eq (tgt := 138) dX6_text_90 (by decide) (by decide) (fun hc90 => absurd hc90 (by decide)) (fun _ => ?_)
    refine x_aload_n dX6_text_93 rfl ?_
    refine v_geti 18 hM dX6_text_94 (by decide) rfl q1148 ?_
    refine x_top hI.tok ?_
    refine x_if_eq (tgt := 138) dX6_text_97 (by decide) (fun hc97 => ?_) (fun hc97 => ?_)
    · have h8 := hI.le
      refine x_mono (fun o M2 hq => ?_) (l_txgR (T := T1) hM hr h.2.1.1 h.2.1.2 hI.stp (by omega))
      obtain ⟨r3, g1, T3, w3, g2, g3, g4, g5⟩ := hq
      refine ⟨r3, g1, T3, w3, g2, ?_⟩
      rw [pRL_0 hc97]
      refine ⟨g3, ?_, ?_⟩
      · rw [g4, h.2.2.2.2.2]
        exact uF_of h.1
      · rw [g5]
        exact krW_of h.2.2.1 h.2.2.2.1
    · refine x_iload_n dX6_text_100 rfl ?_
      refine x_ic3 dX6_text_101 ?_
      refine x_icmpN_ge (tgt := 112) dX6_text_102 (by decide) (by omega) (by omega) (fun hc102 => ?_) (fun hc102 => ?_)
      · exact absurd hc102 (by omega)
      · refine x_aload_n dX6_text_105 rfl ?_
        refine y_V0p hM dX6_text_106 kG_X6_X6_aLine kP_X6_aLine rfl (by omega) (by decide) (Nat.le_of_ble_eq_true rfl) (c_aLine hM hI h.2.1.1 h.2.1.2) (fun r2 T2 hp => ?_)
        rcases lP_or hp with ⟨e, hR, hr2, B, hB, hE⟩ | ⟨x, hR, hr2, hO⟩
        · subst hr2
          refine x_goto (tgt := 116) dX6_text_109 (by decide) ?_
          refine x_istore_n dX6_text_116 (by decide) rfl ?_
          refine x_aload_n dX6_text_117 rfl ?_
          refine x_dup dX6_text_118 rfl ?_
          refine v_geti 12 hM dX6_text_119 (by decide) rfl q1142 ?_
          refine x_iload_n dX6_text_122 rfl ?_
          refine x_ifN_eq (tgt := 130) dX6_text_123 (by decide) (by decide) (fun _ => ?_) (fun hc123 => absurd hc123 (by decide))
          refine x_ic0 dX6_text_130 ?_
          refine x_iadd dX6_text_131 ?_
          refine v_puti 12 hM dX6_text_132 (by decide) rfl q1142 rfl rfl rfl ?_
          refine x_goto (tgt := 89) dX6_text_135 (by decide) ?_
          refine x_mono (fun o M2 hq => ?_) (l_txb hM)
          obtain ⟨r3, g1, T3, w3, g2, g3, g4, g5⟩ := hq
          refine ⟨r3, g1, T3, w3, g2, ?_⟩
          rw [pRL_e hc97 hR]
          refine ⟨g3, ?_, g5⟩
          rw [g4]
          exact uE_fin ⟨((h.1.trans hB.toY).trans hE.1.toY).trans (rY_f (by decide)), hE.2.1, hE.2.2⟩
        · subst hr2
          have b := hO.bd
          refine x_goto (tgt := 116) dX6_text_109 (by decide) ?_
          refine x_istore_n dX6_text_116 (by decide) rfl ?_
          refine x_aload_n dX6_text_117 rfl ?_
          refine x_dup dX6_text_118 rfl ?_
          refine v_geti 12 hM dX6_text_119 (by decide) rfl q1142 ?_
          refine x_top (w := nI ls.length) ((hO.1.2 12 (Or.inl (by decide))).trans h.2.1.1) ?_
          refine x_iload_n dX6_text_122 rfl ?_
          refine x_ifN_eq (tgt := 130) dX6_text_123 (by decide) (by decide) (fun hc123 => absurd hc123 (by decide)) (fun _ => ?_)
          refine x_ic1 dX6_text_126 ?_
          refine x_goto (tgt := 131) dX6_text_127 (by decide) ?_
          refine x_iaddN dX6_text_131 ?_
          refine v_puti 12 hM dX6_text_132 (by decide) rfl q1142 rfl rfl rfl ?_
          refine x_goto (tgt := 89) dX6_text_135 (by decide) ?_
          rw [pRL_k hc97 hR]
          exact ih _ _ _ _ (h.step hR hO) (by omega)
theorem kG_X6_X6_aTowerLine : GoodIn lw_all (wsV RX6 231 RX6 yX6_aTowerLine (ws_ yX6_aTowerLine cX6_aTowerLine 2 (some .boolean))) := lw_V q1357 q1359 qs67 q124 q1360
theorem kP_X6_aTowerLine : kPar yX6_aTowerLine 0 := by decide +kernel
set_option maxHeartbeats 1000000 in
theorem l_txT {n0 s0 : Nat} (hM : tw0 + 17 ≤ fc_nx M)  : ∀ (k : Nat) (T1 : tT) (q : tTk) (ln : Nat) (X : tXs), uV E T q ln X T1 → E.2.2 < q.1 + k → fc_X g l yX6_text cX6_text 3 (some .int) 43 n0 s0 (tv g M T1 w) 89 [some (.ref (fc_B g + tw0)), some (.int (nI 3)), some (.int (nI 1))] [] (tv_i g M (vQ T w (pTT E k q ln X))) := by
  intro k
  induction k with
  | zero => intro T1 q ln X h hk; obtain ⟨dep, hI⟩ := h.2.2.2.2.1; have h8 := hI.le; omega
  | succ k ih =>
    intro T1 q ln X h hk
    obtain ⟨dep, hI⟩ := h.2.2.2.2.1
    obtain ⟨F, hF, hF2⟩ := h.2.2.2.1.2
    refine x_iload_n dX6_text_89 rfl ?_
    refine x_ifN_eq (tgt := 138) dX6_text_90 (by decide) (by decide) (fun hc90 => absurd hc90 (by decide)) (fun _ => ?_)
    refine x_aload_n dX6_text_93 rfl ?_
    refine v_geti 18 hM dX6_text_94 (by decide) rfl q1148 ?_
    refine x_top hI.tok ?_
    refine x_if_eq (tgt := 138) dX6_text_97 (by decide) (fun hc97 => ?_) (fun hc97 => ?_)
    · refine x_mono (fun o M2 hq => ?_) (l_txgT (T := T1) hM (h.2.2.1.1.trans hF) hF2 h.2.2.1.2.1 h.2.2.2.1.1 h.2.1.1)
      obtain ⟨r3, g1, T3, w3, g2, g3, g4, g5⟩ := hq
      refine ⟨r3, g1, T3, w3, g2, ?_⟩
      rw [pTT_0 hc97]
      refine ⟨g3, ?_, ?_⟩
      · rw [g4, h.2.2.2.2.2]
        exact uF_of h.1
      · rw [g5]
        exact ktW_of h.2.2.1.2.2.1 h.2.2.1.2.2.2 hF hF2
    · refine x_iload_n dX6_text_100 rfl ?_
      refine x_ic3 dX6_text_101 ?_
      refine x_icmpN_ge (tgt := 112) dX6_text_102 (by decide) (by omega) (by omega) (fun hc102 => ?_) (fun hc102 => ?_)
      · refine x_aload_n dX6_text_112 rfl ?_
        refine y_V0p hM dX6_text_113 kG_X6_X6_aTowerLine kP_X6_aTowerLine rfl (by omega) (by decide) (Nat.le_of_ble_eq_true rfl) (c_aTowerLine hM hI h.2.2.1 h.2.2.2.1.1 hF hF2 h.2.1.1 h.2.1.2) (fun r2 T2 hp => ?_)
        rcases xP_or hp with ⟨e, hR, hr2, B, hB, hE⟩ | ⟨q2, X2, hR, hr2, B, hB, hX2, hO⟩
        · subst hr2
          refine x_istore_n dX6_text_116 (by decide) rfl ?_
          refine x_aload_n dX6_text_117 rfl ?_
          refine x_dup dX6_text_118 rfl ?_
          refine v_geti 12 hM dX6_text_119 (by decide) rfl q1142 ?_
          refine x_iload_n dX6_text_122 rfl ?_
          refine x_ifN_eq (tgt := 130) dX6_text_123 (by decide) (by decide) (fun _ => ?_) (fun hc123 => absurd hc123 (by decide))
          refine x_ic0 dX6_text_130 ?_
          refine x_iadd dX6_text_131 ?_
          refine v_puti 12 hM dX6_text_132 (by decide) rfl q1142 rfl rfl rfl ?_
          refine x_goto (tgt := 89) dX6_text_135 (by decide) ?_
          refine x_mono (fun o M2 hq => ?_) (l_txb hM)
          obtain ⟨r3, g1, T3, w3, g2, g3, g4, g5⟩ := hq
          refine ⟨r3, g1, T3, w3, g2, ?_⟩
          rw [pTT_e hc97 hR]
          refine ⟨g3, ?_, g5⟩
          rw [g4]
          exact uE_fin ⟨((h.1.trans hB.toY).trans hE.1.toY).trans (rY_f (by decide)), hE.2.1, hE.2.2⟩
        · subst hr2
          have b := hO.bd
          refine x_istore_n dX6_text_116 (by decide) rfl ?_
          refine x_aload_n dX6_text_117 rfl ?_
          refine x_dup dX6_text_118 rfl ?_
          refine v_geti 12 hM dX6_text_119 (by decide) rfl q1142 ?_
          refine x_top (w := nI ln) (((hO.1.2 12 (Or.inl (by decide))).trans (hB 0 12 (by decide) (by decide) (by omega))).trans h.2.1.1) ?_
          refine x_iload_n dX6_text_122 rfl ?_
          refine x_ifN_eq (tgt := 130) dX6_text_123 (by decide) (by decide) (fun hc123 => absurd hc123 (by decide)) (fun _ => ?_)
          refine x_ic1 dX6_text_126 ?_
          refine x_goto (tgt := 131) dX6_text_127 (by decide) ?_
          refine x_iaddN dX6_text_131 ?_
          refine v_puti 12 hM dX6_text_132 (by decide) rfl q1142 rfl rfl rfl ?_
          refine x_goto (tgt := 89) dX6_text_135 (by decide) ?_
          rw [pTT_k hc97 hR]
          exact ih _ q2 _ _ (h.step hR hB hX2 hO) (by omega)
      · exact absurd hc102 (by omega)
set_option maxHeartbeats 1000000 in
theorem l_tx10 {n0 s0 : Nat} {Q : Outcome → fc_M → Prop} (hM : tw0 + 17 ≤ fc_nx M) {v1 : Int32} (kk : fc_X g l yX6_text cX6_text 3 (some .int) 43 n0 s0 (tv g M (t10 T (s10 T 320)) w) 83 [some (.ref (fc_B g + tw0)), some (.int v1), some (.int (nI 320))] [] (Q)) : ∀ (k i : Nat), i ≤ 320 → 320 < i + k → fc_X g l yX6_text cX6_text 3 (some .int) 43 n0 s0 (tv g M (t10 T (s10 T i)) w) 63 [some (.ref (fc_B g + tw0)), some (.int v1), some (.int (nI i))] [] (Q) := by
  intro k
  induction k with
  | zero => intro i h1 h2; omega
  | succ k ih =>
    intro i h1 h2
    refine x_iload_n dX6_text_63 rfl ?_
    refine x_sipush (v := nI 320) dX6_text_64 (by decide) ?_
    refine x_icmpN_ge (tgt := 83) dX6_text_67 (by decide) (by omega) (by omega) (fun hc67 => ?_) (fun hc67 => ?_)
    · obtain rfl : i = 320 := by omega
      exact kk
    · refine x_aload_n dX6_text_70 rfl ?_
      refine v_geta 10 hM dX6_text_71 (by decide) rfl q1140 ?_
      refine x_iload_n dX6_text_74 rfl ?_
      refine x_ic0 dX6_text_75 ?_
      refine v_zast 10 hM dX6_text_76 (by decide) (by decide) rfl rfl (by show _ < 320; omega) rfl ?_
      refine x_eqM (congrArg (fun z => tv g M z w) (t10_u.trans (congrArg (t10 T) s10_u))) ?_
      refine x_iincN (n := 1) dX6_text_77 (by decide) rfl (by decide) rfl ?_
      refine x_goto (tgt := 63) dX6_text_80 (by decide) ?_
      exact ih (i + 1) (by omega) (by omega)
set_option maxHeartbeats 1000000 in
theorem c_textR (hM : tw0 + 17 ≤ fc_nx M) {t : Nat} (ht : T 0 16 = nI t) (htl : t ≤ 400) {r : Nat} (hr : r < 3) : fc_CX g l yX6_text cX6_text 3 (some .int) 43 [.ref (fc_B g + tw0), .int (nI r)] (tv g M T w) (tv_i g M (uQ T w r (pRL (nI r, T 7, t) 401 (nxK (nI r) (T 7) t 0 (T 0 20)) [] []))) := by
  refine fc_enter (by decide) (Nat.le_of_ble_eq_true rfl) rfl ?_
  have hin : nI 0 ≤ nI r ∧ nI r ≤ nI 3 := ⟨(nI_leI (by decide) (by omega)).mpr (Nat.zero_le r), (nI_leI (by omega) (by decide)).mpr (by omega)⟩
  refine x_aload_n dX6_text_0 rfl ?_
  refine x_ic0 dX6_text_1 ?_
  refine v_puti 21 hM dX6_text_2 (by decide) rfl q1151 rfl rfl rfl ?_
  refine x_iload_n dX6_text_5 rfl ?_
  refine x_ic0 dX6_text_6 ?_
  refine x_ic3 dX6_text_7 ?_
  refine v_S3ie dX6_text_8 kG_X6_X6_isIn kP_X6_isIn (by omega) (by decide) (Nat.le_of_ble_eq_true rfl) c_isIn ?_
  refine x_ifB_ne (tgt := 31) dX6_text_11 (by decide) (fun hc11 => ?_) (fun hc11 => ?_)
  · refine x_aload_n dX6_text_31 rfl ?_
    refine x_iload_n dX6_text_32 rfl ?_
    refine v_puti 11 hM dX6_text_33 (by decide) rfl q1141 rfl rfl rfl ?_
    refine x_aload_n dX6_text_36 rfl ?_
    refine x_ic0 dX6_text_37 ?_
    refine v_puti 17 hM dX6_text_38 (by decide) rfl q1147 rfl rfl rfl ?_
    refine x_aload_n dX6_text_41 rfl ?_
    refine x_ic0 dX6_text_42 ?_
    refine v_puti 12 hM dX6_text_43 (by decide) rfl q1142 rfl rfl rfl ?_
    refine x_aload_n dX6_text_46 rfl ?_
    refine x_ic0 dX6_text_47 ?_
    refine v_puti 13 hM dX6_text_48 (by decide) rfl q1143 rfl rfl rfl ?_
    refine x_aload_n dX6_text_51 rfl ?_
    refine x_ic0 dX6_text_52 ?_
    refine v_puti 14 hM dX6_text_53 (by decide) rfl q1144 rfl rfl rfl ?_
    refine x_aload_n dX6_text_56 rfl ?_
    refine x_ic0 dX6_text_57 ?_
    refine v_puti 15 hM dX6_text_58 (by decide) rfl q1145 rfl rfl rfl ?_
    refine x_eqM (congrArg (fun z => tv g M z w) (show _ = ini T (nI r) from rfl)) ?_
    refine x_ic0 dX6_text_61 ?_
    refine x_istore_n dX6_text_62 (by decide) rfl ?_
    refine x_eqM (congrArg (fun z => tv g M z w) t10_0.symm) ?_
    refine l_tx10 hM ?_ 321 0 (by omega) (by omega)
    refine x_aload_n dX6_text_83 rfl ?_
    refine v_V0ve hM dX6_text_84 kG_X6_X6_next0 kP_X6_next0 rfl (by omega) (by decide) (Nat.le_of_ble_eq_true rfl) (c_next0 (T := t10 (ini T (nI r)) (s10 (ini T (nI r)) 320)) (w := w) hM ht htl (a := 0) rfl (Nat.zero_le t)) ?_
    refine x_ic1 dX6_text_87 ?_
    refine x_istore_n dX6_text_88 (by decide) rfl ?_
    obtain ⟨dep, hI⟩ := ini_I (T := T) (x := nI r) (v := T 0 20) (S := s10 (ini T (nI r)) 320) ht htl
    have h8 := hI.le
    exact l_txR (E := (nI r, T 7, t)) hM hr 401 _ _ [] [] ⟨ini_Y, ⟨rfl, by decide⟩, (fun i z e => by cases e), (fun i z e => by cases e), ⟨dep, hI⟩, rfl⟩ (by omega)
  · exact absurd hin hc11
set_option maxHeartbeats 1000000 in
theorem c_textT (hM : tw0 + 17 ≤ fc_nx M) {t : Nat} (ht : T 0 16 = nI t) (htl : t ≤ 400) : fc_CX g l yX6_text cX6_text 3 (some .int) 43 [.ref (fc_B g + tw0), .int (nI 3)] (tv g M T w) (tv_i g M (vQ T w (pTT (nI 3, T 7, t) 401 (nxK (nI 3) (T 7) t 0 (T 0 20)) 0 (nI 0, 0, T 6, s10 (ini T (nI 3)) 320)))) := by
  refine fc_enter (by decide) (Nat.le_of_ble_eq_true rfl) rfl ?_
  have hin : nI 0 ≤ nI 3 ∧ nI 3 ≤ nI 3 := by decide
  refine x_aload_n dX6_text_0 rfl ?_
  refine x_ic0 dX6_text_1 ?_
  refine v_puti 21 hM dX6_text_2 (by decide) rfl q1151 rfl rfl rfl ?_
  refine x_iload_n dX6_text_5 rfl ?_
  refine x_ic0 dX6_text_6 ?_
  refine x_ic3 dX6_text_7 ?_
  refine v_S3ie dX6_text_8 kG_X6_X6_isIn kP_X6_isIn (by omega) (by decide) (Nat.le_of_ble_eq_true rfl) c_isIn ?_
  refine x_ifB_ne (tgt := 31) dX6_text_11 (by decide) (fun hc11 => ?_) (fun hc11 => ?_)
  · refine x_aload_n dX6_text_31 rfl ?_
    refine x_iload_n dX6_text_32 rfl ?_
    refine v_puti 11 hM dX6_text_33 (by decide) rfl q1141 rfl rfl rfl ?_
    refine x_aload_n dX6_text_36 rfl ?_
    refine x_ic0 dX6_text_37 ?_
    refine v_puti 17 hM dX6_text_38 (by decide) rfl q1147 rfl rfl rfl ?_
    refine x_aload_n dX6_text_41 rfl ?_
    refine x_ic0 dX6_text_42 ?_
    refine v_puti 12 hM dX6_text_43 (by decide) rfl q1142 rfl rfl rfl ?_
    refine x_aload_n dX6_text_46 rfl ?_
    refine x_ic0 dX6_text_47 ?_
    refine v_puti 13 hM dX6_text_48 (by decide) rfl q1143 rfl rfl rfl ?_
    refine x_aload_n dX6_text_51 rfl ?_
    refine x_ic0 dX6_text_52 ?_
    refine v_puti 14 hM dX6_text_53 (by decide) rfl q1144 rfl rfl rfl ?_
    refine x_aload_n dX6_text_56 rfl ?_
    refine x_ic0 dX6_text_57 ?_
    refine v_puti 15 hM dX6_text_58 (by decide) rfl q1145 rfl rfl rfl ?_
    refine x_eqM (congrArg (fun z => tv g M z w) (show _ = ini T (nI 3) from rfl)) ?_
    refine x_ic0 dX6_text_61 ?_
    refine x_istore_n dX6_text_62 (by decide) rfl ?_
    refine x_eqM (congrArg (fun z => tv g M z w) t10_0.symm) ?_
    refine l_tx10 hM ?_ 321 0 (by omega) (by omega)
    refine x_aload_n dX6_text_83 rfl ?_
    refine v_V0ve hM dX6_text_84 kG_X6_X6_next0 kP_X6_next0 rfl (by omega) (by decide) (Nat.le_of_ble_eq_true rfl) (c_next0 (T := t10 (ini T (nI 3)) (s10 (ini T (nI 3)) 320)) (w := w) hM ht htl (a := 0) rfl (Nat.zero_le t)) ?_
    refine x_ic1 dX6_text_87 ?_
    refine x_istore_n dX6_text_88 (by decide) rfl ?_
    obtain ⟨dep, hI⟩ := ini_I (T := T) (x := nI 3) (v := T 0 20) (S := s10 (ini T (nI 3)) 320) ht htl
    have h8 := hI.le
    exact l_txT (E := (nI 3, T 7, t)) hM 401 _ _ 0 (nI 0, 0, T 6, s10 (ini T (nI 3)) 320) ⟨ini_Y, ⟨rfl, by decide⟩, ⟨rfl, rfl, rfl, rfl⟩, ⟨Nat.zero_le 4, 0, rfl, Nat.zero_le 80⟩, ⟨dep, hI⟩, rfl⟩ (by omega)
  · exact absurd hin hc11
set_option maxHeartbeats 1000000 in
theorem c_textB (hM : tw0 + 17 ≤ fc_nx M) {x : Int32} (hx : ¬ (nI 0 ≤ x ∧ x ≤ nI 3)) : fc_CX g l yX6_text cX6_text 3 (some .int) 43 [.ref (fc_B g + tw0), .int x] (tv g M T w) (tv_ie g M (-1) (tu (tu (tu (tu T 0 21 (nI 0)) 0 16 (nI 0)) 0 23 (nI 0)) 0 25 (-1)) w) := by
  refine fc_enter (by decide) (Nat.le_of_ble_eq_true rfl) rfl ?_
  refine x_aload_n dX6_text_0 rfl ?_
  refine x_ic0 dX6_text_1 ?_
  refine v_puti 21 hM dX6_text_2 (by decide) rfl q1151 rfl rfl rfl ?_
  refine x_iload_n dX6_text_5 rfl ?_
  refine x_ic0 dX6_text_6 ?_
  refine x_ic3 dX6_text_7 ?_
  refine v_S3ie dX6_text_8 kG_X6_X6_isIn kP_X6_isIn (by omega) (by decide) (Nat.le_of_ble_eq_true rfl) c_isIn ?_
  refine x_ifB_ne (tgt := 31) dX6_text_11 (by decide) (fun hc11 => ?_) (fun hc11 => ?_)
  · exact absurd hc11 hx
  · refine x_aload_n dX6_text_14 rfl ?_
    refine x_ic0 dX6_text_15 ?_
    refine v_puti 16 hM dX6_text_16 (by decide) rfl q1146 rfl rfl rfl ?_
    refine x_aload_n dX6_text_19 rfl ?_
    refine x_ic0 dX6_text_20 ?_
    refine v_puti 23 hM dX6_text_21 (by decide) rfl q1153 rfl rfl rfl ?_
    refine x_aload_n dX6_text_24 rfl ?_
    refine x_icm1 dX6_text_25 ?_
    refine v_puti 25 hM dX6_text_26 (by decide) rfl q1155 rfl rfl rfl ?_
    refine x_icm1 dX6_text_29 ?_
    exact x_iret dX6_text_30 rfl (by rfl) tv_i1
end T87
