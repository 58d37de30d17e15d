set_option maxRecDepth 100000
section T75
variable {g : fc_G} {l : Launch} {M : fc_M} {T : tT} {w : Nat → Int32}
theorem x_i2c {y : MethodName} {cc : ByteArray} {nL : Nat} {ret : Option FieldType} {d n0 s0 pc : Nat} {L : List (Option Value)} {st : List Value} {Q : Outcome → fc_M → Prop} {x v : Int32} (hd : decode cc pc = .ok (.i2c, 1)) (hv : (x.toUInt32 % 65536).toInt32 = v) (k : fc_X g l y cc nL ret d n0 s0 M (pc + 1) L (.int v :: st) Q) : fc_X g l y cc nL ret d n0 s0 M pc L (.int x :: st) Q :=
  fc_go (fun R p e s m args below meth c H ls locs cells slots Qs Mf hSt hR hS hL k => lv_i2c hSt.1 hSt.2.1 hd hv k) k
theorem kG_J1_J0_checkIndex : GoodIn lw_all (va_wsS RJ1 9 yJ0_checkIndex (ws_ yJ0_checkIndex cJ0_checkIndex 2 (none))) := lw_S q559 q560 q127 q561
theorem kP_J0_checkIndex : kPar yJ0_checkIndex 2 := by decide +kernel
theorem c_lchar {q N j : Nat} {f : Nat → Value} {x : Int32} (hE : ∀ U, fc_Env g U → va_T .byte q N f (fc_A g) U (fc_H0 g)) (hj : j < N) (hN : N < 2 ^ 31) (hf : f j = .int x) (hx : ((x &&& nI 255).toUInt32 % 65536).toInt32 = x) (hn : narrow .char (.int x) = .int x) : fc_CX g l yJ1_charAt cJ1_charAt 2 (some .char) 3 [.ref q, .int (nI j)] M (fc_re x M) := by
  refine fc_enter (by decide) (Nat.le_of_ble_eq_true rfl) rfl ?_
  refine x_iload_n dJ1_charAt_0 rfl ?_
  refine x_aload_n dJ1_charAt_1 rfl ?_
  refine x_tlen dJ1_charAt_2 hE ?_
  obtain ⟨o2, M2, ⟨ho, hM2⟩, hC2⟩ := c_chk0 (g := g) (l := l) (M := M) hj hN
  subst hM2
  refine fc_callS (As := [.int (nI j), .int (nI N)]) dJ1_charAt_3 kG_J1_J0_checkIndex kP_J0_checkIndex.2 (by omega) (by decide) (Nat.le_of_ble_eq_true rfl) rfl hC2 ho ?_
  refine x_aload_n dJ1_charAt_6 rfl ?_
  refine x_iload_n dJ1_charAt_7 rfl ?_
  refine x_tbld dJ1_charAt_8 hE hj hN hf ?_
  refine x_sipush (v := nI 255) dJ1_charAt_9 (by decide) ?_
  refine x_iand dJ1_charAt_12 ?_
  refine x_i2c dJ1_charAt_13 hx ?_
  exact x_iret dJ1_charAt_14 rfl hn fc_re.of
end T75
