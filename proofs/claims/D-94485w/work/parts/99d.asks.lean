set_option maxRecDepth 100000
section T99D
variable {g : fc_G} {l : Launch} {M : fc_M} {S : tT} {U : tU} {β : Nat} {w : Nat → Int32} {π f nC : Nat}
theorem k_hst {y : MethodName} {cc : ByteArray} {nL : Nat} {ret : Option FieldType} {d n0 s0 : Nat} {pc : Nat} {L : List (Option Value)} {st : List Value} {Q : Outcome → fc_M → Prop} {i : Nat} {x : Int32} (hF : LF g M) (hβ : 31 < β) (hd : decode cc pc = .ok (.iastore, 1)) (hi : i < 10) (kk : fc_X g l y cc nL ret d n0 s0 (cR M (tu S 31 i x) U β w) (pc + 1) L st Q) : fc_X g l y cc nL ret d n0 s0 (cR M S U β w) pc L (.int x :: .int (nI i) :: .ref (fc_B g + 31) :: st) Q := by
  refine x_iast hd (show 31 < fc_nx M by have := hF.1; omega) (hF.2.2 31 _ rfl) (by decide) hi ?_
  rw [cl_puti (by rw [hF.2.2 31 _ rfl]; rfl), clr_uo (by omega)]
  exact kk
def abI (x : Int32) : Int32 := if 0 ≤ x then x else -x
theorem abI_nI {a b : Nat} (ha : a < 2 ^ 30) (hb : b < 2 ^ 30) : abI (nI a - nI b) = if nI b < nI a then nI a - nI b else nI b - nI a := by
  unfold abI
  by_cases h : a < b
  · have h1 : nI a - nI b < 0 := (nI_sub_lt0 ha hb).mpr h
    rw [if_neg (Int32.not_le.mpr h1), if_neg (fun z => by have := (nI_ltI (by omega) (by omega)).mp z; omega), Int32.neg_sub]
  · have h1 : 0 ≤ nI a - nI b := Int32.not_lt.mp (fun z => h ((nI_sub_lt0 ha hb).mp z))
    rw [if_pos h1]
    by_cases h2 : b < a
    · rw [if_pos ((nI_ltI (by omega) (by omega)).mpr h2)]
    · obtain rfl : a = b := by omega
      rw [if_neg (Int32.lt_irrefl)]
theorem x_mabs {y : MethodName} {cc : ByteArray} {nL : Nat} {ret : Option FieldType} {d n0 s0 : Nat} {M : fc_M} {pc : Nat} {L : List (Option Value)} {st : List Value} {Q : Outcome → fc_M → Prop} {i : Nat} {x : Int32} (hd : decode cc pc = .ok (.invokestatic i, 3)) (hq : Cond.methodLink y.cls i Lib.Math.abs.name ∈ lw_all) (hdd : 1 ≤ d) (hrest : (st.map fun v => v.category).sum ≤ 8) (kk : fc_X g l y cc nL ret d n0 s0 M (pc + 3) L (.int (if 0 ≤ x then x else 0 - x) :: st) Q) : fc_X g l y cc nL ret d n0 s0 M pc L (.int x :: st) Q := by
  obtain ⟨o, Mf, hQ, hb0, hE⟩ := kk
  refine ⟨o, Mf, hQ, hb0, fun R p e s m args below meth c H ls locs hSt h1 h2 hR hS hL => ?_⟩
  obtain ⟨hx, hb, hml, hown, hrt, hlk, hts, hnm, henv, hrm, -⟩ := id hSt
  exact va_mabs hx hb (by rw [hml, hL.1]) hown (hts _ hq) (hts _ q897) (hts _ q131) (hts _ q898) (by omega) (by omega) (by omega) (by omega) hd (hE R p e s m args below meth c H ls locs hSt h1 h2 hR hS hL)
theorem x_mmax {y : MethodName} {cc : ByteArray} {nL : Nat} {ret : Option FieldType} {d n0 s0 : Nat} {M : fc_M} {pc : Nat} {L : List (Option Value)} {st : List Value} {Q : Outcome → fc_M → Prop} {i : Nat} {x z : Int32} (hd : decode cc pc = .ok (.invokestatic i, 3)) (hq : Cond.methodLink y.cls i Lib.Math.max.name ∈ lw_all) (hdd : 1 ≤ d) (hrest : (st.map fun v => v.category).sum ≤ 8) (kk : fc_X g l y cc nL ret d n0 s0 M (pc + 3) L (.int (if x < z then z else x) :: st) Q) : fc_X g l y cc nL ret d n0 s0 M pc L (.int z :: .int x :: st) Q := by
  obtain ⟨o, Mf, hQ, hb0, hE⟩ := kk
  refine ⟨o, Mf, hQ, hb0, fun R p e s m args below meth c H ls locs hSt h1 h2 hR hS hL => ?_⟩
  obtain ⟨hx, hb, hml, hown, hrt, hlk, hts, hnm, henv, hrm, -⟩ := id hSt
  exact va_mmax hx hb (by rw [hml, hL.1]) hown (hts _ hq) (hts _ q612) (hts _ q131) (hts _ q613) (by omega) (by omega) (by omega) (by omega) hd (hE R p e s m args below meth c H ls locs hSt h1 h2 hR hS hL)
theorem x_mmin {y : MethodName} {cc : ByteArray} {nL : Nat} {ret : Option FieldType} {d n0 s0 : Nat} {M : fc_M} {pc : Nat} {L : List (Option Value)} {st : List Value} {Q : Outcome → fc_M → Prop} {i : Nat} {x z : Int32} (hd : decode cc pc = .ok (.invokestatic i, 3)) (hq : Cond.methodLink y.cls i Lib.Math.min.name ∈ lw_all) (hdd : 1 ≤ d) (hrest : (st.map fun v => v.category).sum ≤ 8) (kk : fc_X g l y cc nL ret d n0 s0 M (pc + 3) L (.int (if z < x then z else x) :: st) Q) : fc_X g l y cc nL ret d n0 s0 M pc L (.int z :: .int x :: st) Q := by
  obtain ⟨o, Mf, hQ, hb0, hE⟩ := kk
  refine ⟨o, Mf, hQ, hb0, fun R p e s m args below meth c H ls locs hSt h1 h2 hR hS hL => ?_⟩
  obtain ⟨hx, hb, hml, hown, hrt, hlk, hts, hnm, henv, hrm, -⟩ := id hSt
  exact va_mmin hx hb (by rw [hml, hL.1]) hown (hts _ hq) (hts _ q591) (hts _ q131) (hts _ q592) (by omega) (by omega) (by omega) (by omega) hd (hE R p e s m args below meth c H ls locs hSt h1 h2 hR hS hL)
theorem abI_0 {x : Int32} : (if 0 ≤ x then x else 0 - x) = abI x := by
  unfold abI
  by_cases h : 0 ≤ x
  · rw [if_pos h, if_pos h]
  · rw [if_neg h, if_neg h, Int32.zero_sub]
set_option maxHeartbeats 1000000 in
theorem m_asks4 {n0 s0 : Nat} (hL : LT g M β) (hO : PC g M S π β f nC w) {n : Nat} (hn : n ≤ 60) (hw : w 2 = nI n) {p c : Nat} (hp : p < 60) (hc : c < 4) : fc_X g l yX3_asks cX3_asks 6 (none) 2 n0 s0 (cR M S U β w) 196 [some (.ref (fc_B g + β)), some (.int (nI p)), some (.int (nI c)), some (.ref (fc_B g + (β + 3 + p))), some (.ref (fc_B g + (β + 63 + c))), some (.int (wayW w p))] [] (fc_rn (cR M (tu (tu (tu S 31 7 (fcW w p c n 8)) 31 8 (fcW w p c n 9)) 31 9 (fcW w p c n 10)) U β w)) := by
  refine x_aload_n dX3_asks_196 rfl ?_
  refine k_this0 11 rfl hL dX3_asks_197 q367 ?_
  refine k_FrefN 16 hO.1 rfl (by decide) rfl dX3_asks_200 q414 ?_
  refine x_bipush (v := nI 7) dX3_asks_203 (by decide) ?_
  refine x_aload_n dX3_asks_205 rfl ?_
  refine k_pget 1 hL dX3_asks_206 (by decide) q271 (by omega) ?_
  refine x_top (w := fcW w p c n 8) rfl ?_
  refine k_hst hO.1 hO.2.2.1.2.2 dX3_asks_209 (by decide) ?_
  refine x_aload_n dX3_asks_210 rfl ?_
  refine k_this0 11 rfl hL dX3_asks_211 q367 ?_
  refine k_FrefN 16 hO.1 rfl (by decide) rfl dX3_asks_214 q414 ?_
  refine x_bipush (v := nI 8) dX3_asks_217 (by decide) ?_
  refine x_aload_n dX3_asks_219 rfl ?_
  refine k_tget 3 hL dX3_asks_220 (by decide) q353 ?_
  refine x_aload_n dX3_asks_223 rfl ?_
  refine k_pget 0 hL dX3_asks_224 (by decide) q268 (by omega) ?_
  refine x_isub dX3_asks_227 ?_
  refine x_top (w := fcW w p c n 9) rfl ?_
  refine k_hst hO.1 hO.2.2.1.2.2 dX3_asks_228 (by decide) ?_
  refine x_aload_n dX3_asks_229 rfl ?_
  refine k_this0 11 rfl hL dX3_asks_230 q367 ?_
  refine k_FrefN 16 hO.1 rfl (by decide) rfl dX3_asks_233 q414 ?_
  refine x_bipush (v := nI 9) dX3_asks_236 (by decide) ?_
  refine x_iload_n dX3_asks_238 rfl ?_
  refine x_top (w := fcW w p c n 10) rfl ?_
  refine k_hst hO.1 hO.2.2.1.2.2 dX3_asks_239 (by decide) ?_
  exact x_vret dX3_asks_240 rfl fc_rn.of
set_option maxHeartbeats 1000000 in
theorem m_asks3 {n0 s0 : Nat} (hL : LT g M β) (hO : PC g M S π β f nC w) {n : Nat} (hn : n ≤ 60) (hw : w 2 = nI n) {p c : Nat} (hp : p < 60) (hc : c < 4) : fc_X g l yX3_asks cX3_asks 6 (none) 2 n0 s0 (cR M S U β w) 175 [some (.ref (fc_B g + β)), some (.int (nI p)), some (.int (nI c)), some (.ref (fc_B g + (β + 3 + p))), some (.ref (fc_B g + (β + 63 + c))), some (.int (wayW w p))] [] (fc_rn (cR M (tu (tu (tu (tu S 31 6 (fcW w p c n 7)) 31 7 (fcW w p c n 8)) 31 8 (fcW w p c n 9)) 31 9 (fcW w p c n 10)) U β w)) := by
  refine x_aload_n dX3_asks_175 rfl ?_
  refine k_this0 11 rfl hL dX3_asks_176 q367 ?_
  refine k_FrefN 16 hO.1 rfl (by decide) rfl dX3_asks_179 q414 ?_
  refine x_bipush (v := nI 6) dX3_asks_182 (by decide) ?_
  refine x_iload dX3_asks_184 rfl ?_
  refine x_ic1 dX3_asks_186 ?_
  refine x_icmp_ne (tgt := 194) dX3_asks_187 (by decide) (fun hc187 => ?_) (fun hc187 => ?_)
  · refine x_ic0 dX3_asks_194 ?_
    refine x_top (w := fcW w p c n 7) (if_neg hc187).symm ?_
    refine k_hst hO.1 hO.2.2.1.2.2 dX3_asks_195 (by decide) ?_
    exact m_asks4 (S := (tu S 31 6 (fcW w p c n 7))) hL (hO.sf (fun a k e1 e2 => (if_neg (fun (z : a = 31 ∧ k = 6) => e1 z.1)))) hn hw hp hc
  · refine x_ic1 dX3_asks_190 ?_
    refine x_top (w := fcW w p c n 7) (if_pos hc187).symm ?_
    refine x_goto (tgt := 195) dX3_asks_191 (by decide) ?_
    refine k_hst hO.1 hO.2.2.1.2.2 dX3_asks_195 (by decide) ?_
    exact m_asks4 (S := (tu S 31 6 (fcW w p c n 7))) hL (hO.sf (fun a k e1 e2 => (if_neg (fun (z : a = 31 ∧ k = 6) => e1 z.1)))) hn hw hp hc
set_option maxHeartbeats 1000000 in
theorem m_asks2 {n0 s0 : Nat} (hL : LT g M β) (hO : PC g M S π β f nC w) {n : Nat} (hn : n ≤ 60) (hw : w 2 = nI n) {p c : Nat} (hp : p < 60) (hc : c < 4) : fc_X g l yX3_asks cX3_asks 6 (none) 2 n0 s0 (cR M S U β w) 123 [some (.ref (fc_B g + β)), some (.int (nI p)), some (.int (nI c)), some (.ref (fc_B g + (β + 3 + p))), some (.ref (fc_B g + (β + 63 + c))), some (.int (wayW w p))] [] (fc_rn (cR M (tu (tu (tu (tu (tu (tu (tu S 31 3 (fcW w p c n 4)) 31 4 (fcW w p c n 5)) 31 5 (fcW w p c n 6)) 31 6 (fcW w p c n 7)) 31 7 (fcW w p c n 8)) 31 8 (fcW w p c n 9)) 31 9 (fcW w p c n 10)) U β w)) := by
  refine x_aload_n dX3_asks_123 rfl ?_
  refine k_this0 11 rfl hL dX3_asks_124 q367 ?_
  refine k_FrefN 16 hO.1 rfl (by decide) rfl dX3_asks_127 q414 ?_
  refine x_ic3 dX3_asks_130 ?_
  refine x_aload_n dX3_asks_131 rfl ?_
  refine x_iload_n dX3_asks_132 rfl ?_
  refine x_ic2 dX3_asks_133 ?_
  refine k_V2iT hL dX3_asks_134 kG_X3_X3_inCar kP_X3_inCar rfl (by omega) (by decide) (Nat.le_of_ble_eq_true rfl) (d_inCar hL hn hw rfl) ?_
  refine x_top (w := fcW w p c n 4) rfl ?_
  refine k_hst hO.1 hO.2.2.1.2.2 dX3_asks_137 (by decide) ?_
  refine x_aload_n dX3_asks_138 rfl ?_
  refine k_this0 11 rfl hL dX3_asks_139 q367 ?_
  refine k_FrefN 16 hO.1 rfl (by decide) rfl dX3_asks_142 q414 ?_
  refine x_ic4 dX3_asks_145 ?_
  refine x_aload_n dX3_asks_146 rfl ?_
  refine x_iload_n dX3_asks_147 rfl ?_
  refine x_ic1 dX3_asks_148 ?_
  refine k_V2iT hL dX3_asks_149 kG_X3_X3_inCar kP_X3_inCar rfl (by omega) (by decide) (Nat.le_of_ble_eq_true rfl) (d_inCar hL hn hw rfl) ?_
  refine x_top (w := fcW w p c n 5) rfl ?_
  refine k_hst hO.1 hO.2.2.1.2.2 dX3_asks_152 (by decide) ?_
  refine x_aload_n dX3_asks_153 rfl ?_
  refine k_this0 11 rfl hL dX3_asks_154 q367 ?_
  refine k_FrefN 16 hO.1 rfl (by decide) rfl dX3_asks_157 q414 ?_
  refine x_ic5 dX3_asks_160 ?_
  refine x_aload dX3_asks_161 rfl ?_
  refine k_cget 2 2 rfl hL dX3_asks_163 (by decide) q315 (by omega) ?_
  refine x_if_ne (tgt := 173) dX3_asks_166 (by decide) (fun hc166 => ?_) (fun hc166 => ?_)
  · refine x_ic0 dX3_asks_173 ?_
    refine x_top (w := fcW w p c n 6) (if_neg hc166).symm ?_
    refine k_hst hO.1 hO.2.2.1.2.2 dX3_asks_174 (by decide) ?_
    exact m_asks3 (S := (tu (tu (tu S 31 3 (fcW w p c n 4)) 31 4 (fcW w p c n 5)) 31 5 (fcW w p c n 6))) hL (hO.sf (fun a k e1 e2 => (((if_neg (fun (z : a = 31 ∧ k = 5) => e1 z.1)).trans (if_neg (fun (z : a = 31 ∧ k = 4) => e1 z.1))).trans (if_neg (fun (z : a = 31 ∧ k = 3) => e1 z.1))))) hn hw hp hc
  · refine x_ic1 dX3_asks_169 ?_
    refine x_top (w := fcW w p c n 6) (if_pos hc166).symm ?_
    refine x_goto (tgt := 174) dX3_asks_170 (by decide) ?_
    refine k_hst hO.1 hO.2.2.1.2.2 dX3_asks_174 (by decide) ?_
    exact m_asks3 (S := (tu (tu (tu S 31 3 (fcW w p c n 4)) 31 4 (fcW w p c n 5)) 31 5 (fcW w p c n 6))) hL (hO.sf (fun a k e1 e2 => (((if_neg (fun (z : a = 31 ∧ k = 5) => e1 z.1)).trans (if_neg (fun (z : a = 31 ∧ k = 4) => e1 z.1))).trans (if_neg (fun (z : a = 31 ∧ k = 3) => e1 z.1))))) hn hw hp hc
set_option maxHeartbeats 1000000 in
theorem m_asks1 {n0 s0 : Nat} (hL : LT g M β) (hO : PC g M S π β f nC w) {n : Nat} (hn : n ≤ 60) (hw : w 2 = nI n) {p c : Nat} (hp : p < 60) (hc : c < 4) : fc_X g l yX3_asks cX3_asks 6 (none) 2 n0 s0 (cR M S U β w) 91 [some (.ref (fc_B g + β)), some (.int (nI p)), some (.int (nI c)), some (.ref (fc_B g + (β + 3 + p))), some (.ref (fc_B g + (β + 63 + c))), some (.int (wayW w p))] [] (fc_rn (cR M (tu (tu (tu (tu (tu (tu (tu (tu S 31 2 (fcW w p c n 3)) 31 3 (fcW w p c n 4)) 31 4 (fcW w p c n 5)) 31 5 (fcW w p c n 6)) 31 6 (fcW w p c n 7)) 31 7 (fcW w p c n 8)) 31 8 (fcW w p c n 9)) 31 9 (fcW w p c n 10)) U β w)) := by
  refine x_aload_n dX3_asks_91 rfl ?_
  refine k_this0 11 rfl hL dX3_asks_92 q367 ?_
  refine k_FrefN 16 hO.1 rfl (by decide) rfl dX3_asks_95 q414 ?_
  refine x_ic2 dX3_asks_98 ?_
  refine x_aload dX3_asks_99 rfl ?_
  refine k_cget 1 1 rfl hL dX3_asks_101 (by decide) q312 (by omega) ?_
  refine x_if_eq (tgt := 121) dX3_asks_104 (by decide) (fun hc104 => ?_) (fun hc104 => ?_)
  · refine x_ic0 dX3_asks_121 ?_
    refine x_top (w := fcW w p c n 3) (if_pos hc104).symm ?_
    refine k_hst hO.1 hO.2.2.1.2.2 dX3_asks_122 (by decide) ?_
    exact m_asks2 (S := (tu S 31 2 (fcW w p c n 3))) hL (hO.sf (fun a k e1 e2 => (if_neg (fun (z : a = 31 ∧ k = 2) => e1 z.1)))) hn hw hp hc
  · refine x_aload dX3_asks_107 rfl ?_
    refine k_cget 1 1 rfl hL dX3_asks_109 (by decide) q312 (by omega) ?_
    refine x_iload dX3_asks_112 rfl ?_
    refine x_icmp_eq (tgt := 121) dX3_asks_114 (by decide) (fun hc114 => ?_) (fun hc114 => ?_)
    · refine x_ic0 dX3_asks_121 ?_
      refine x_top (w := fcW w p c n 3) ((if_neg hc104).trans (if_pos hc114)).symm ?_
      refine k_hst hO.1 hO.2.2.1.2.2 dX3_asks_122 (by decide) ?_
      exact m_asks2 (S := (tu S 31 2 (fcW w p c n 3))) hL (hO.sf (fun a k e1 e2 => (if_neg (fun (z : a = 31 ∧ k = 2) => e1 z.1)))) hn hw hp hc
    · refine x_ic1 dX3_asks_117 ?_
      refine x_top (w := fcW w p c n 3) ((if_neg hc104).trans (if_neg hc114)).symm ?_
      refine x_goto (tgt := 122) dX3_asks_118 (by decide) ?_
      refine k_hst hO.1 hO.2.2.1.2.2 dX3_asks_122 (by decide) ?_
      exact m_asks2 (S := (tu S 31 2 (fcW w p c n 3))) hL (hO.sf (fun a k e1 e2 => (if_neg (fun (z : a = 31 ∧ k = 2) => e1 z.1)))) hn hw hp hc
set_option maxHeartbeats 1000000 in
theorem d_asks (hL : LT g M β) (hO : PC g M S π β f nC w) {n : Nat} (hn : n ≤ 60) (hw : w 2 = nI n) {p c : Nat} (hp : p < 60) (hc : c < 4) {a b : Nat} (ha : w (10 + 20 * c + 0) = nI a) (ha2 : a < 80) (hb : w (820 + 8 * p + 1) = nI b) (hb2 : b < 80) : fc_CX g l yX3_asks cX3_asks 6 (none) 2 [.ref (fc_B g + β), .int (nI p), .int (nI c)] (cR M S U β w) (fc_rn (cR M (tu (tu (tu (tu (tu (tu (tu (tu (tu (tu S 31 0 (fcW w p c n 1)) 31 1 (fcW w p c n 2)) 31 2 (fcW w p c n 3)) 31 3 (fcW w p c n 4)) 31 4 (fcW w p c n 5)) 31 5 (fcW w p c n 6)) 31 6 (fcW w p c n 7)) 31 7 (fcW w p c n 8)) 31 8 (fcW w p c n 9)) 31 9 (fcW w p c n 10)) U β w)) := by
  refine fc_enter (by decide) (Nat.le_of_ble_eq_true rfl) rfl ?_
  refine x_aload_n dX3_asks_0 rfl ?_
  refine k_people 0 rfl hL dX3_asks_1 q347 ?_
  refine x_iload_n dX3_asks_4 rfl ?_
  refine k_pald hL dX3_asks_5 (by omega) ?_
  refine x_astore_n dX3_asks_6 (by decide) rfl ?_
  refine x_aload_n dX3_asks_7 rfl ?_
  refine k_cars 1 rfl hL dX3_asks_8 q349 ?_
  refine x_iload_n dX3_asks_11 rfl ?_
  refine k_cald hL dX3_asks_12 (by omega) ?_
  refine x_astore dX3_asks_13 (by decide) rfl ?_
  refine x_aload_n dX3_asks_15 rfl ?_
  refine k_V0iP hL (by omega) dX3_asks_16 kG_X3_X4_way kP_X4_way rfl (by omega) (by decide) (Nat.le_of_ble_eq_true rfl) (d_way hL (by omega)) ?_
  refine x_istore dX3_asks_19 (by decide) rfl ?_
  refine x_aload_n dX3_asks_21 rfl ?_
  refine k_this0 11 rfl hL dX3_asks_22 q367 ?_
  refine k_FrefN 16 hO.1 rfl (by decide) rfl dX3_asks_25 q414 ?_
  refine x_ic0 dX3_asks_28 ?_
  refine x_aload dX3_asks_29 rfl ?_
  refine k_cget 0 0 rfl hL dX3_asks_31 (by decide) q309 (by omega) ?_
  refine x_aload_n dX3_asks_34 rfl ?_
  refine k_pget 1 hL dX3_asks_35 (by decide) q271 (by omega) ?_
  refine x_isub dX3_asks_38 ?_
  refine x_mabs dX3_asks_39 q896 (by omega) (Nat.le_of_ble_eq_true rfl) ?_
  refine x_top abI_0 ?_
  refine x_top (w := fcW w p c n 1) (by rw [ha, hb, abI_nI (by omega) (by omega)]; show _ = (if w (820 + 8 * p + 1) < w (10 + 20 * c + 0) then w (10 + 20 * c + 0) - w (820 + 8 * p + 1) else w (820 + 8 * p + 1) - w (10 + 20 * c + 0)); rw [ha, hb]) ?_
  refine k_hst hO.1 hO.2.2.1.2.2 dX3_asks_42 (by decide) ?_
  refine x_aload_n dX3_asks_43 rfl ?_
  refine k_this0 11 rfl hL dX3_asks_44 q367 ?_
  refine k_FrefN 16 hO.1 rfl (by decide) rfl dX3_asks_47 q414 ?_
  refine x_ic1 dX3_asks_50 ?_
  refine x_aload dX3_asks_51 rfl ?_
  refine k_cget 1 1 rfl hL dX3_asks_53 (by decide) q312 (by omega) ?_
  refine x_if_eq (tgt := 89) dX3_asks_56 (by decide) (fun hc56 => ?_) (fun hc56 => ?_)
  · refine x_ic0 dX3_asks_89 ?_
    refine x_top (w := fcW w p c n 2) (if_pos hc56).symm ?_
    refine k_hst hO.1 hO.2.2.1.2.2 dX3_asks_90 (by decide) ?_
    exact m_asks1 (S := (tu (tu S 31 0 (fcW w p c n 1)) 31 1 (fcW w p c n 2))) hL (hO.sf (fun a k e1 e2 => ((if_neg (fun (z : a = 31 ∧ k = 1) => e1 z.1)).trans (if_neg (fun (z : a = 31 ∧ k = 0) => e1 z.1))))) hn hw hp hc
  · refine x_aload dX3_asks_59 rfl ?_
    refine k_cget 1 1 rfl hL dX3_asks_61 (by decide) q312 (by omega) ?_
    refine x_iload dX3_asks_64 rfl ?_
    refine x_icmp_ne (tgt := 89) dX3_asks_66 (by decide) (fun hc66 => ?_) (fun hc66 => ?_)
    · refine x_ic0 dX3_asks_89 ?_
      refine x_top (w := fcW w p c n 2) ((if_neg hc56).trans (if_neg hc66)).symm ?_
      refine k_hst hO.1 hO.2.2.1.2.2 dX3_asks_90 (by decide) ?_
      exact m_asks1 (S := (tu (tu S 31 0 (fcW w p c n 1)) 31 1 (fcW w p c n 2))) hL (hO.sf (fun a k e1 e2 => ((if_neg (fun (z : a = 31 ∧ k = 1) => e1 z.1)).trans (if_neg (fun (z : a = 31 ∧ k = 0) => e1 z.1))))) hn hw hp hc
    · refine x_aload_n dX3_asks_69 rfl ?_
      refine k_pget 1 hL dX3_asks_70 (by decide) q271 (by omega) ?_
      refine x_aload dX3_asks_73 rfl ?_
      refine k_cget 0 0 rfl hL dX3_asks_75 (by decide) q309 (by omega) ?_
      refine x_isub dX3_asks_78 ?_
      refine x_iload dX3_asks_79 rfl ?_
      refine x_imul dX3_asks_81 ?_
      refine x_if_lt (tgt := 89) dX3_asks_82 (by decide) (fun hc82 => ?_) (fun hc82 => ?_)
      · refine x_ic0 dX3_asks_89 ?_
        refine x_top (w := fcW w p c n 2) ((if_neg hc56).trans ((if_pos hc66).trans (if_pos (by rw [hc66]; exact hc82)))).symm ?_
        refine k_hst hO.1 hO.2.2.1.2.2 dX3_asks_90 (by decide) ?_
        exact m_asks1 (S := (tu (tu S 31 0 (fcW w p c n 1)) 31 1 (fcW w p c n 2))) hL (hO.sf (fun a k e1 e2 => ((if_neg (fun (z : a = 31 ∧ k = 1) => e1 z.1)).trans (if_neg (fun (z : a = 31 ∧ k = 0) => e1 z.1))))) hn hw hp hc
      · refine x_ic1 dX3_asks_85 ?_
        refine x_top (w := fcW w p c n 2) ((if_neg hc56).trans ((if_pos hc66).trans (if_neg (by rw [hc66]; exact hc82)))).symm ?_
        refine x_goto (tgt := 90) dX3_asks_86 (by decide) ?_
        refine k_hst hO.1 hO.2.2.1.2.2 dX3_asks_90 (by decide) ?_
        exact m_asks1 (S := (tu (tu S 31 0 (fcW w p c n 1)) 31 1 (fcW w p c n 2))) hL (hO.sf (fun a k e1 e2 => ((if_neg (fun (z : a = 31 ∧ k = 1) => e1 z.1)).trans (if_neg (fun (z : a = 31 ∧ k = 0) => e1 z.1))))) hn hw hp hc
end T99D
