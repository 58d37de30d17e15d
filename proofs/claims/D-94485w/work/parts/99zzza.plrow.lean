set_option maxRecDepth 100000
/-! ===== the row that a new plan tells beside the tower's row ===== -/
section T99ZZZA
variable {g : fc_G} {M : fc_M} {S : tT} {v : Nat → Int32}
def plR (S : tT) (π : Nat) (v : Nat → Int32) : Nat → Int32 := fun i => if i = 5 then S π 2 else if 100 ≤ i ∧ i < 420 then (if S (π + 7 + (i - 100) / 80) ((i - 100) % 80) = 0 then nI 1 else nI 0) else if 10 ≤ i ∧ i < 90 ∧ 6 ≤ (i - 10) % 20 ∧ (i - 10) % 20 < 11 then S (π + 1 + ((i - 10) % 20 - 6)) ((i - 10) / 20) else v i
theorem plR_clr {β π : Nat} : clr S β (plR S π v) = clr S β v := by
  refine clr_eq (fun i hi => ?_)
  show (if _ then _ else if _ then _ else if _ then _ else v i) = v i
  rcases hi with h | h | h
  · rw [if_neg (by omega), if_neg (by omega), if_neg (by omega)]
  · rw [if_neg (by omega), if_neg (by omega), if_neg (by omega)]
  · rw [if_neg (by omega), if_neg (by omega), if_neg (by omega)]
theorem plR_PO {π F nc ln : Nat} {K Z : Nat → Int32} (h : PR g M S π F nc ln K Z) (hK : KV F nc K) (hZ : ZV Z) : PO g M S π F nc (plR S π v) := by
  obtain ⟨a, b, ⟨⟨c1, c2, c3⟩, ⟨c4, c5, c6⟩, c7⟩, d1, d2⟩ := h
  have e : ∀ c, c < 4 → ∀ j, j < 5 → plR S π v (10 + 20 * c + (6 + j)) = S (π + 1 + j) c := fun c hc j hj => by
    show (if _ then _ else if _ then _ else if _ then _ else _) = _
    rw [if_neg (by omega), if_neg (by omega), if_pos (by omega), show (10 + 20 * c + (6 + j) - 10) % 20 - 6 = j by omega, show (10 + 20 * c + (6 + j) - 10) / 20 = c by omega]
  refine ⟨a, b, ⟨c1, c2, ?_, c4, c5⟩, fun c hc j hj => (e c (by omega) j hj).symm, fun c hc q hq => ?_, fun c hc => ?_⟩
  · exact (if_pos rfl).symm
  · have e2 : plR S π v (100 + 80 * c + q) = (if S (π + 7 + c) q = 0 then nI 1 else nI 0) := by
      show (if _ then _ else if _ then _ else _) = _
      rw [if_neg (by omega), if_pos (by omega), show (100 + 80 * c + q - 100) / 80 = c by omega, show (100 + 80 * c + q - 100) % 80 = q by omega]
    rw [e2, d2 c (by omega) q (by omega)]
    rcases hZ (80 * c + q) (by omega) with z | z
    · rw [z, if_pos rfl]; exact (bI_f (fun y => y rfl)).symm
    · rw [z, if_neg (by decide)]; exact (bI_t (by decide)).symm
  · obtain ⟨⟨r, r1, r2, r3⟩, -⟩ := hK c hc
    refine ⟨r, r2, ?_⟩
    have z := e c (by omega) 0 (by decide)
    rw [show 10 + 20 * c + (6 + 0) = 10 + 20 * c + 6 by omega] at z
    rw [z, d1 c hc 0 (by decide)]
    exact r3
end T99ZZZA
