/-! MY ROWS 31: what lies where (vectors of nine), and the model's small methods -/
set_option maxRecDepth 100000
def mq (p : Nat → Int32) (a : Nat) (m : Int32) : Int32 := if p a < m then p a else m
def mv (p : Nat → Int32) (a b : Nat) (m : Int32) : Nat → Int32 := va_up (va_up p a (p a - mq p a m)) b (va_up p a (p a - mq p a m) b + mq p a m)
def lf (i : Nat) : Nat := if i = 0 then 6 else i - 1
def rt (n i : Nat) : Nat := if i + 1 = n then 6 else i + 1
def canV (A : Nat → Nat → Int32) (p : Nat → Int32) (i : Nat) : Bool := A 7 i == iN 5 || !(decide (A 8 i + (if A 7 i = iN 2 then iN 2 else iN 0) < p i))
def thr (n : Nat) (A : Nat → Nat → Int32) (p : Nat → Int32) (i : Nat) : Nat → Int32 :=
  if A 7 i = iN 0 then mv p i (rt n i) (iN 1) else if A 7 i = iN 1 then mv p i (lf i) (iN 2) else if A 7 i = iN 3 then mv p (lf i) i (iN 1) else if A 7 i = iN 4 then mv (mv p i (lf i) (iN 1)) i (rt n i) (iN 1) else p
def playV (n : Nat) (A : Nat → Nat → Int32) (p : Nat → Int32) (i : Nat) : Nat → Int32 := va_up (thr n A p i) 8 (thr n A p i 8 + A 9 i)
def bI (b : Bool) : Int32 := if b = true then iN 1 else iN 0
theorem bI0 (b : Bool) : (bI b = iN 0) = (b = false) := by
  cases b
  · exact propext ⟨fun _ => rfl, fun _ => rfl⟩
  · exact propext ⟨fun h => absurd h (by decide), fun h => by cases h⟩
theorem rZb (b : Bool) (μ : gM) : rZ (bI b) μ = some (some (.int (bI b)), μ) := by cases b <;> rfl
theorem bI_t : bI true = iN 1 := rfl
theorem bI_f : bI false = iN 0 := rfl
theorem lf_lt {i : Nat} (h : i < 6) : lf i < 7 := by unfold lf; split <;> omega
theorem rt_lt {n i : Nat} (hn : n ≤ 6) (h : i < n) : rt n i < 7 := by unfold rt; split <;> omega
theorem lf_ne {i : Nat} (h : i < 6) : lf i ≠ i := by unfold lf; split <;> omega
theorem rt_ne {n i : Nat} (hn : n ≤ 6) (h : i < n) : rt n i ≠ i := by unfold rt; split <;> omega
def inR (x : Int32) (a b : Int32) : Bool := !(decide (x < a)) && !(decide (b < x))
section MSMALL
variable {I : Nat → Int32} {L : Nat → Int64} {A : Nat → Nat → Int32} {B : Nat → Nat → Nat → Int32} {n : Nat}
theorem M_in (μ : gM) (x a b : Int32) : fX2_in μ x a b = some (some (.int (bI (inR x a b))), μ) := by
  unfold fX2_in inR
  by_cases h : x < a
  · simp only [h, if_true, decide_true, Bool.not_true, Bool.false_and]
    rfl
  · by_cases g : b < x
    · simp only [h, g, if_true, if_false, decide_true, decide_false, Bool.not_true, Bool.not_false, Bool.and_false]
      rfl
    · simp only [h, g, if_true, if_false, decide_true, decide_false, Bool.not_true, Bool.not_false, Bool.and_true]
      rfl
theorem M_isRow (μ : gM) (x : Int32) : fX2_isRow μ x = some (some (.int (bI (inR x (iN 0) (iN 5)))), μ) := by
  simp only [fX2_isRow, M_in, k_cI, lit0, lit5, rZb]
theorem M_isText (μ : gM) (x : Int32) : fX2_isText μ x = some (some (.int (bI (inR x (iN 0) (iN 3)))), μ) := by
  simp only [fX2_isText, M_in, k_cI, lit0, lit3, rZb]
theorem M_isKey (x : Int32) : fX2_isKey (mM I L A B) 0 x = some (some (.int (bI (inR x (iN 0) (I 11 - iN 1)))), mM I L A B) := by
  simp only [fX2_isKey, M_in, k_nm, k_jn, k_cI, k_cJ, k_cP, k_cV, k_rZ0, k_rZ1, k_nn, k_nu1, k_nu0, k_nl1, k_nl0, lit0, lit1, lit2, lit3, lit4, lit5, lit6, lit7, lit8, lit9, lit10, lit11, lit12, lit20, lit24, lit31, lit32, lit40, lit48, lit60, lit240, lit540, lit999, lit1000, lit98, lit99, lit100, lit107, lit112, lit114, lit115, mM_is, mM_i0, mM_pi0, mM_i2, mM_pi2, mM_i10, mM_pi10, mM_i11, mM_pi11, mM_i15, mM_pi15, mM_i16, mM_pi16, mM_i17, mM_pi17, mM_i18, mM_pi18, mM_i21, mM_pi21, mM_i30, mM_pi30, mM_i31, mM_pi31, mM_i32, mM_pi32, mM_i33, mM_pi33, mM_l3, mM_pl3, mM_l4, mM_pl4, mM_l35, mM_pl35, mM_r1, mM_a1, mM_s1, mM_r5, mM_a2, mM_s2, mM_r6, mM_a3, mM_s3, mM_r7, mM_a4, mM_s4, mM_r8, mM_a5, mM_s5, mM_r9, mM_a6, mM_s6, mM_r12, mM_a7, mM_s7, mM_r13, mM_a8, mM_s8, mM_r14, mM_a9, mM_s9, mM_r19, mM_a10, mM_s10, mM_r20, mM_a11, mM_s11, mM_r22, mM_a12, mM_s12, mM_r23, mM_a13, mM_s13, mM_r24, mM_a14, mM_s14, mM_r25, mM_a15, mM_s15, mM_r26, mM_a16, mM_s16, mM_r27, mM_a17, mM_s17, mM_r28, mM_a18, mM_s18, mM_r29, mM_a19, mM_s19, mM_r34, mM_a20, mM_s20, iN_add, iN_mul, va_ups, va_upp, va_upn, rZb]
theorem M_meets {f : Nat} (hf : f < 6) : fX2_meets (mM I L A B) 0 (iN f) = some (some (.int (-3)), mM (va_up I 0 (iN f)) L (va_up A 1 (va_up (A 1) f (A 1 f + iN 1))) B) := by
  simp (disch := first | omega | assumption | rfl) only [fX2_meets, k_nm, k_jn, k_cI, k_cJ, k_cP, k_cV, k_rZ0, k_rZ1, k_nn, k_nu1, k_nu0, k_nl1, k_nl0, lit0, lit1, lit2, lit3, lit4, lit5, lit6, lit7, lit8, lit9, lit10, lit11, lit12, lit20, lit24, lit31, lit32, lit40, lit48, lit60, lit240, lit540, lit999, lit1000, lit98, lit99, lit100, lit107, lit112, lit114, lit115, mM_is, mM_i0, mM_pi0, mM_i2, mM_pi2, mM_i10, mM_pi10, mM_i11, mM_pi11, mM_i15, mM_pi15, mM_i16, mM_pi16, mM_i17, mM_pi17, mM_i18, mM_pi18, mM_i21, mM_pi21, mM_i30, mM_pi30, mM_i31, mM_pi31, mM_i32, mM_pi32, mM_i33, mM_pi33, mM_l3, mM_pl3, mM_l4, mM_pl4, mM_l35, mM_pl35, mM_r1, mM_a1, mM_s1, mM_r5, mM_a2, mM_s2, mM_r6, mM_a3, mM_s3, mM_r7, mM_a4, mM_s4, mM_r8, mM_a5, mM_s5, mM_r9, mM_a6, mM_s6, mM_r12, mM_a7, mM_s7, mM_r13, mM_a8, mM_s8, mM_r14, mM_a9, mM_s9, mM_r19, mM_a10, mM_s10, mM_r20, mM_a11, mM_s11, mM_r22, mM_a12, mM_s12, mM_r23, mM_a13, mM_s13, mM_r24, mM_a14, mM_s14, mM_r25, mM_a15, mM_s15, mM_r26, mM_a16, mM_s16, mM_r27, mM_a17, mM_s17, mM_r28, mM_a18, mM_s18, mM_r29, mM_a19, mM_s19, mM_r34, mM_a20, mM_s20, iN_add, iN_mul, va_ups, va_upp, va_upn]
theorem M_tells (v a : Int32) : fX2_tells (mM I L A B) 0 v a = some (some (.int a), mM (va_up I 2 v) L A B) := by
  simp (disch := first | omega | assumption | rfl) only [fX2_tells, k_nm, k_jn, k_cI, k_cJ, k_cP, k_cV, k_rZ0, k_rZ1, k_nn, k_nu1, k_nu0, k_nl1, k_nl0, lit0, lit1, lit2, lit3, lit4, lit5, lit6, lit7, lit8, lit9, lit10, lit11, lit12, lit20, lit24, lit31, lit32, lit40, lit48, lit60, lit240, lit540, lit999, lit1000, lit98, lit99, lit100, lit107, lit112, lit114, lit115, mM_is, mM_i0, mM_pi0, mM_i2, mM_pi2, mM_i10, mM_pi10, mM_i11, mM_pi11, mM_i15, mM_pi15, mM_i16, mM_pi16, mM_i17, mM_pi17, mM_i18, mM_pi18, mM_i21, mM_pi21, mM_i30, mM_pi30, mM_i31, mM_pi31, mM_i32, mM_pi32, mM_i33, mM_pi33, mM_l3, mM_pl3, mM_l4, mM_pl4, mM_l35, mM_pl35, mM_r1, mM_a1, mM_s1, mM_r5, mM_a2, mM_s2, mM_r6, mM_a3, mM_s3, mM_r7, mM_a4, mM_s4, mM_r8, mM_a5, mM_s5, mM_r9, mM_a6, mM_s6, mM_r12, mM_a7, mM_s7, mM_r13, mM_a8, mM_s8, mM_r14, mM_a9, mM_s9, mM_r19, mM_a10, mM_s10, mM_r20, mM_a11, mM_s11, mM_r22, mM_a12, mM_s12, mM_r23, mM_a13, mM_s13, mM_r24, mM_a14, mM_s14, mM_r25, mM_a15, mM_s15, mM_r26, mM_a16, mM_s16, mM_r27, mM_a17, mM_s17, mM_r28, mM_a18, mM_s18, mM_r29, mM_a19, mM_s19, mM_r34, mM_a20, mM_s20, iN_add, iN_mul, va_ups, va_upp, va_upn]
theorem M_rowAt {r i : Nat} (hr : r < 6) (hi : i < 40) : fX2_rowAt (mM I L A B) 0 (iN r) (iN i) = some (some (.int (B 3 r i)), mM I L A B) := by
  simp (disch := first | omega | assumption | rfl) only [fX2_rowAt, k_nm, k_jn, k_cI, k_cJ, k_cP, k_cV, k_rZ0, k_rZ1, k_nn, k_nu1, k_nu0, k_nl1, k_nl0, lit0, lit1, lit2, lit3, lit4, lit5, lit6, lit7, lit8, lit9, lit10, lit11, lit12, lit20, lit24, lit31, lit32, lit40, lit48, lit60, lit240, lit540, lit999, lit1000, lit98, lit99, lit100, lit107, lit112, lit114, lit115, mM_is, mM_i0, mM_pi0, mM_i2, mM_pi2, mM_i10, mM_pi10, mM_i11, mM_pi11, mM_i15, mM_pi15, mM_i16, mM_pi16, mM_i17, mM_pi17, mM_i18, mM_pi18, mM_i21, mM_pi21, mM_i30, mM_pi30, mM_i31, mM_pi31, mM_i32, mM_pi32, mM_i33, mM_pi33, mM_l3, mM_pl3, mM_l4, mM_pl4, mM_l35, mM_pl35, mM_r1, mM_a1, mM_s1, mM_r5, mM_a2, mM_s2, mM_r6, mM_a3, mM_s3, mM_r7, mM_a4, mM_s4, mM_r8, mM_a5, mM_s5, mM_r9, mM_a6, mM_s6, mM_r12, mM_a7, mM_s7, mM_r13, mM_a8, mM_s8, mM_r14, mM_a9, mM_s9, mM_r19, mM_a10, mM_s10, mM_r20, mM_a11, mM_s11, mM_r22, mM_a12, mM_s12, mM_r23, mM_a13, mM_s13, mM_r24, mM_a14, mM_s14, mM_r25, mM_a15, mM_s15, mM_r26, mM_a16, mM_s16, mM_r27, mM_a17, mM_s17, mM_r28, mM_a18, mM_s18, mM_r29, mM_a19, mM_s19, mM_r34, mM_a20, mM_s20, iN_add, iN_mul, va_ups, va_upp, va_upn]
theorem M_v {f i : Nat} (hf : f < 15) (hi : i < 9) : fX2_v (mM I L A B) 0 (iN f) (iN i) = some (some (.int (B 11 f i)), mM I L A B) := by
  simp (disch := first | omega | assumption | rfl) only [fX2_v, k_nm, k_jn, k_cI, k_cJ, k_cP, k_cV, k_rZ0, k_rZ1, k_nn, k_nu1, k_nu0, k_nl1, k_nl0, lit0, lit1, lit2, lit3, lit4, lit5, lit6, lit7, lit8, lit9, lit10, lit11, lit12, lit20, lit24, lit31, lit32, lit40, lit48, lit60, lit240, lit540, lit999, lit1000, lit98, lit99, lit100, lit107, lit112, lit114, lit115, mM_is, mM_i0, mM_pi0, mM_i2, mM_pi2, mM_i10, mM_pi10, mM_i11, mM_pi11, mM_i15, mM_pi15, mM_i16, mM_pi16, mM_i17, mM_pi17, mM_i18, mM_pi18, mM_i21, mM_pi21, mM_i30, mM_pi30, mM_i31, mM_pi31, mM_i32, mM_pi32, mM_i33, mM_pi33, mM_l3, mM_pl3, mM_l4, mM_pl4, mM_l35, mM_pl35, mM_r1, mM_a1, mM_s1, mM_r5, mM_a2, mM_s2, mM_r6, mM_a3, mM_s3, mM_r7, mM_a4, mM_s4, mM_r8, mM_a5, mM_s5, mM_r9, mM_a6, mM_s6, mM_r12, mM_a7, mM_s7, mM_r13, mM_a8, mM_s8, mM_r14, mM_a9, mM_s9, mM_r19, mM_a10, mM_s10, mM_r20, mM_a11, mM_s11, mM_r22, mM_a12, mM_s12, mM_r23, mM_a13, mM_s13, mM_r24, mM_a14, mM_s14, mM_r25, mM_a15, mM_s15, mM_r26, mM_a16, mM_s16, mM_r27, mM_a17, mM_s17, mM_r28, mM_a18, mM_s18, mM_r29, mM_a19, mM_s19, mM_r34, mM_a20, mM_s20, iN_add, iN_mul, va_ups, va_upp, va_upn]
theorem M_place {f i : Nat} (hf : f < 15) (hi : i < 9) (x : Int32) : fX2_place (mM I L A B) 0 (iN f) (iN i) x = some (none, mM I L A (va_up B 11 (va_up (B 11) f (va_up (B 11 f) i x)))) := by
  simp (disch := first | omega | assumption | rfl) only [fX2_place, k_nm, k_jn, k_cI, k_cJ, k_cP, k_cV, k_rZ0, k_rZ1, k_nn, k_nu1, k_nu0, k_nl1, k_nl0, lit0, lit1, lit2, lit3, lit4, lit5, lit6, lit7, lit8, lit9, lit10, lit11, lit12, lit20, lit24, lit31, lit32, lit40, lit48, lit60, lit240, lit540, lit999, lit1000, lit98, lit99, lit100, lit107, lit112, lit114, lit115, mM_is, mM_i0, mM_pi0, mM_i2, mM_pi2, mM_i10, mM_pi10, mM_i11, mM_pi11, mM_i15, mM_pi15, mM_i16, mM_pi16, mM_i17, mM_pi17, mM_i18, mM_pi18, mM_i21, mM_pi21, mM_i30, mM_pi30, mM_i31, mM_pi31, mM_i32, mM_pi32, mM_i33, mM_pi33, mM_l3, mM_pl3, mM_l4, mM_pl4, mM_l35, mM_pl35, mM_r1, mM_a1, mM_s1, mM_r5, mM_a2, mM_s2, mM_r6, mM_a3, mM_s3, mM_r7, mM_a4, mM_s4, mM_r8, mM_a5, mM_s5, mM_r9, mM_a6, mM_s6, mM_r12, mM_a7, mM_s7, mM_r13, mM_a8, mM_s8, mM_r14, mM_a9, mM_s9, mM_r19, mM_a10, mM_s10, mM_r20, mM_a11, mM_s11, mM_r22, mM_a12, mM_s12, mM_r23, mM_a13, mM_s13, mM_r24, mM_a14, mM_s14, mM_r25, mM_a15, mM_s15, mM_r26, mM_a16, mM_s16, mM_r27, mM_a17, mM_s17, mM_r28, mM_a18, mM_s18, mM_r29, mM_a19, mM_s19, mM_r34, mM_a20, mM_s20, iN_add, iN_mul, va_ups, va_upp, va_upn]
theorem M_add {f i : Nat} (hf : f < 15) (hi : i < 9) (x : Int32) : fX2_add (mM I L A B) 0 (iN f) (iN i) x = some (none, mM I L A (va_up B 11 (va_up (B 11) f (va_up (B 11 f) i (B 11 f i + x))))) := by
  simp (disch := first | omega | assumption | rfl) only [fX2_add, k_nm, k_jn, k_cI, k_cJ, k_cP, k_cV, k_rZ0, k_rZ1, k_nn, k_nu1, k_nu0, k_nl1, k_nl0, lit0, lit1, lit2, lit3, lit4, lit5, lit6, lit7, lit8, lit9, lit10, lit11, lit12, lit20, lit24, lit31, lit32, lit40, lit48, lit60, lit240, lit540, lit999, lit1000, lit98, lit99, lit100, lit107, lit112, lit114, lit115, mM_is, mM_i0, mM_pi0, mM_i2, mM_pi2, mM_i10, mM_pi10, mM_i11, mM_pi11, mM_i15, mM_pi15, mM_i16, mM_pi16, mM_i17, mM_pi17, mM_i18, mM_pi18, mM_i21, mM_pi21, mM_i30, mM_pi30, mM_i31, mM_pi31, mM_i32, mM_pi32, mM_i33, mM_pi33, mM_l3, mM_pl3, mM_l4, mM_pl4, mM_l35, mM_pl35, mM_r1, mM_a1, mM_s1, mM_r5, mM_a2, mM_s2, mM_r6, mM_a3, mM_s3, mM_r7, mM_a4, mM_s4, mM_r8, mM_a5, mM_s5, mM_r9, mM_a6, mM_s6, mM_r12, mM_a7, mM_s7, mM_r13, mM_a8, mM_s8, mM_r14, mM_a9, mM_s9, mM_r19, mM_a10, mM_s10, mM_r20, mM_a11, mM_s11, mM_r22, mM_a12, mM_s12, mM_r23, mM_a13, mM_s13, mM_r24, mM_a14, mM_s14, mM_r25, mM_a15, mM_s15, mM_r26, mM_a16, mM_s16, mM_r27, mM_a17, mM_s17, mM_r28, mM_a18, mM_s18, mM_r29, mM_a19, mM_s19, mM_r34, mM_a20, mM_s20, iN_add, iN_mul, va_ups, va_upp, va_upn]
theorem mq_le (p : Nat → Int32) (a : Nat) (m : Int32) : mq p a m = if p a ≤ m then p a else m := by
  unfold mq
  by_cases h : p a < m
  · rw [if_pos h, if_pos (Int32.le_of_lt h)]
  · rw [if_neg h]
    by_cases g : p a ≤ m
    · rw [if_pos g]
      exact Int32.le_antisymm (Int32.not_lt.mp h) g
    · rw [if_neg g]
theorem M_moves {f a b : Nat} (hf : f < 15) (ha : a < 9) (hb : b < 9) (m : Int32) : fX2_moves (mM I L A B) 0 (iN f) (iN a) (iN b) m = some (some (.int (mq (B 11 f) a m)), mM I L A (va_up B 11 (va_up (B 11) f (mv (B 11 f) a b m)))) := by
  have hl : ∀ (μ : gM) (x y : Int32), fX2_lesser μ x y = some (some (.int (if y ≤ x then y else x)), μ) := by
    intro μ x y
    unfold fX2_lesser
    split <;> rfl
  simp (disch := first | omega | assumption | rfl) only [fX2_moves, M_v, hl, M_add, ← mq_le, k_nm, k_jn, k_cI, k_cJ, k_cP, k_cV, k_rZ0, k_rZ1, k_nn, k_nu1, k_nu0, k_nl1, k_nl0, lit0, lit1, lit2, lit3, lit4, lit5, lit6, lit7, lit8, lit9, lit10, lit11, lit12, lit20, lit24, lit31, lit32, lit40, lit48, lit60, lit240, lit540, lit999, lit1000, lit98, lit99, lit100, lit107, lit112, lit114, lit115, mM_is, mM_i0, mM_pi0, mM_i2, mM_pi2, mM_i10, mM_pi10, mM_i11, mM_pi11, mM_i15, mM_pi15, mM_i16, mM_pi16, mM_i17, mM_pi17, mM_i18, mM_pi18, mM_i21, mM_pi21, mM_i30, mM_pi30, mM_i31, mM_pi31, mM_i32, mM_pi32, mM_i33, mM_pi33, mM_l3, mM_pl3, mM_l4, mM_pl4, mM_l35, mM_pl35, mM_r1, mM_a1, mM_s1, mM_r5, mM_a2, mM_s2, mM_r6, mM_a3, mM_s3, mM_r7, mM_a4, mM_s4, mM_r8, mM_a5, mM_s5, mM_r9, mM_a6, mM_s6, mM_r12, mM_a7, mM_s7, mM_r13, mM_a8, mM_s8, mM_r14, mM_a9, mM_s9, mM_r19, mM_a10, mM_s10, mM_r20, mM_a11, mM_s11, mM_r22, mM_a12, mM_s12, mM_r23, mM_a13, mM_s13, mM_r24, mM_a14, mM_s14, mM_r25, mM_a15, mM_s15, mM_r26, mM_a16, mM_s16, mM_r27, mM_a17, mM_s17, mM_r28, mM_a18, mM_s18, mM_r29, mM_a19, mM_s19, mM_r34, mM_a20, mM_s20, iN_add, iN_mul, va_ups, va_upp, va_upn]
  have h : ∀ x y : Int32, x + -y = x - y := fun x y => (Int32.sub_eq_add_neg x y).symm
  simp only [mv, h]
theorem M_leftOf {i : Nat} (hi : i < 6) : fX2_leftOf (mM I L A B) 0 (iN i) = some (some (.int (iN (lf i))), mM I L A B) := by
  unfold fX2_leftOf lf
  simp (disch := first | omega | assumption | rfl) only [k_nm, k_jn, k_cI, k_cJ, k_cP, k_cV, k_rZ0, k_rZ1, k_nn, k_nu1, k_nu0, k_nl1, k_nl0, lit0, lit1, lit2, lit3, lit4, lit5, lit6, lit7, lit8, lit9, lit10, lit11, lit12, lit20, lit24, lit31, lit32, lit40, lit48, lit60, lit240, lit540, lit999, lit1000, lit98, lit99, lit100, lit107, lit112, lit114, lit115, mM_is, mM_i0, mM_pi0, mM_i2, mM_pi2, mM_i10, mM_pi10, mM_i11, mM_pi11, mM_i15, mM_pi15, mM_i16, mM_pi16, mM_i17, mM_pi17, mM_i18, mM_pi18, mM_i21, mM_pi21, mM_i30, mM_pi30, mM_i31, mM_pi31, mM_i32, mM_pi32, mM_i33, mM_pi33, mM_l3, mM_pl3, mM_l4, mM_pl4, mM_l35, mM_pl35, mM_r1, mM_a1, mM_s1, mM_r5, mM_a2, mM_s2, mM_r6, mM_a3, mM_s3, mM_r7, mM_a4, mM_s4, mM_r8, mM_a5, mM_s5, mM_r9, mM_a6, mM_s6, mM_r12, mM_a7, mM_s7, mM_r13, mM_a8, mM_s8, mM_r14, mM_a9, mM_s9, mM_r19, mM_a10, mM_s10, mM_r20, mM_a11, mM_s11, mM_r22, mM_a12, mM_s12, mM_r23, mM_a13, mM_s13, mM_r24, mM_a14, mM_s14, mM_r25, mM_a15, mM_s15, mM_r26, mM_a16, mM_s16, mM_r27, mM_a17, mM_s17, mM_r28, mM_a18, mM_s18, mM_r29, mM_a19, mM_s19, mM_r34, mM_a20, mM_s20, iN_add, iN_mul, va_ups, va_upp, va_upn, iN_eq]
  by_cases h : i = 0
  · rw [if_pos h, if_pos h]
  · rw [if_neg h, if_neg h, iN_sub (by omega)]
theorem M_rightOf {i : Nat} (hn : n ≤ 6) (hI : I 11 = iN n) (hi : i < n) : fX2_rightOf (mM I L A B) 0 (iN i) = some (some (.int (iN (rt n i))), mM I L A B) := by
  unfold fX2_rightOf rt
  simp (disch := first | omega | assumption | rfl) only [k_nm, k_jn, k_cI, k_cJ, k_cP, k_cV, k_rZ0, k_rZ1, k_nn, k_nu1, k_nu0, k_nl1, k_nl0, lit0, lit1, lit2, lit3, lit4, lit5, lit6, lit7, lit8, lit9, lit10, lit11, lit12, lit20, lit24, lit31, lit32, lit40, lit48, lit60, lit240, lit540, lit999, lit1000, lit98, lit99, lit100, lit107, lit112, lit114, lit115, mM_is, mM_i0, mM_pi0, mM_i2, mM_pi2, mM_i10, mM_pi10, mM_i11, mM_pi11, mM_i15, mM_pi15, mM_i16, mM_pi16, mM_i17, mM_pi17, mM_i18, mM_pi18, mM_i21, mM_pi21, mM_i30, mM_pi30, mM_i31, mM_pi31, mM_i32, mM_pi32, mM_i33, mM_pi33, mM_l3, mM_pl3, mM_l4, mM_pl4, mM_l35, mM_pl35, mM_r1, mM_a1, mM_s1, mM_r5, mM_a2, mM_s2, mM_r6, mM_a3, mM_s3, mM_r7, mM_a4, mM_s4, mM_r8, mM_a5, mM_s5, mM_r9, mM_a6, mM_s6, mM_r12, mM_a7, mM_s7, mM_r13, mM_a8, mM_s8, mM_r14, mM_a9, mM_s9, mM_r19, mM_a10, mM_s10, mM_r20, mM_a11, mM_s11, mM_r22, mM_a12, mM_s12, mM_r23, mM_a13, mM_s13, mM_r24, mM_a14, mM_s14, mM_r25, mM_a15, mM_s15, mM_r26, mM_a16, mM_s16, mM_r27, mM_a17, mM_s17, mM_r28, mM_a18, mM_s18, mM_r29, mM_a19, mM_s19, mM_r34, mM_a20, mM_s20, iN_add, iN_mul, va_ups, va_upp, va_upn, hI, iN_sub, iN_eq]
  by_cases h : i + 1 = n
  · rw [if_pos h, if_pos (by omega)]
  · rw [if_neg h, if_neg (by omega)]
theorem M_canPlay {f i : Nat} (hf : f < 15) (hi : i < 6) : fX2_canPlay (mM I L A B) 0 (iN f) (iN i) = some (some (.int (bI (canV A (B 11 f) i))), mM I L A B) := by
  unfold fX2_canPlay canV
  simp (disch := first | omega | assumption | rfl) only [M_v, k_nm, k_jn, k_cI, k_cJ, k_cP, k_cV, k_rZ0, k_rZ1, k_nn, k_nu1, k_nu0, k_nl1, k_nl0, lit0, lit1, lit2, lit3, lit4, lit5, lit6, lit7, lit8, lit9, lit10, lit11, lit12, lit20, lit24, lit31, lit32, lit40, lit48, lit60, lit240, lit540, lit999, lit1000, lit98, lit99, lit100, lit107, lit112, lit114, lit115, mM_is, mM_i0, mM_pi0, mM_i2, mM_pi2, mM_i10, mM_pi10, mM_i11, mM_pi11, mM_i15, mM_pi15, mM_i16, mM_pi16, mM_i17, mM_pi17, mM_i18, mM_pi18, mM_i21, mM_pi21, mM_i30, mM_pi30, mM_i31, mM_pi31, mM_i32, mM_pi32, mM_i33, mM_pi33, mM_l3, mM_pl3, mM_l4, mM_pl4, mM_l35, mM_pl35, mM_r1, mM_a1, mM_s1, mM_r5, mM_a2, mM_s2, mM_r6, mM_a3, mM_s3, mM_r7, mM_a4, mM_s4, mM_r8, mM_a5, mM_s5, mM_r9, mM_a6, mM_s6, mM_r12, mM_a7, mM_s7, mM_r13, mM_a8, mM_s8, mM_r14, mM_a9, mM_s9, mM_r19, mM_a10, mM_s10, mM_r20, mM_a11, mM_s11, mM_r22, mM_a12, mM_s12, mM_r23, mM_a13, mM_s13, mM_r24, mM_a14, mM_s14, mM_r25, mM_a15, mM_s15, mM_r26, mM_a16, mM_s16, mM_r27, mM_a17, mM_s17, mM_r28, mM_a18, mM_s18, mM_r29, mM_a19, mM_s19, mM_r34, mM_a20, mM_s20, iN_add, iN_mul, va_ups, va_upp, va_upn]
  by_cases h : A 7 i = iN 5
  · rw [if_pos h, h]
    rfl
  · rw [if_neg h]
    have h5 : (A 7 i == iN 5) = false := beq_false_of_ne h
    rw [h5, Bool.false_or]
    by_cases g : A 7 i = iN 2
    · simp only [if_pos g]
      by_cases k : A 8 i + iN 2 < B 11 f i
      · simp only [k, if_true, decide_true]
        rfl
      · simp only [k, if_false, decide_false]
        rfl
    · simp only [if_neg g]
      by_cases k : A 8 i + iN 0 < B 11 f i
      · simp only [k, if_true, decide_true]
        rfl
      · simp only [k, if_false, decide_false]
        rfl
theorem M_plays {f i : Nat} (hf : f < 15) (hn : n ≤ 6) (hI : I 11 = iN n) (hi : i < n) : fX2_plays (mM I L A B) 0 (iN f) (iN i) = some (none, mM I L A (va_up B 11 (va_up (B 11) f (playV n A (B 11 f) i)))) := by
  have hl := lf_lt (i := i) (by omega)
  have hr := rt_lt hn hi
  unfold fX2_plays playV thr
  simp (disch := first | omega | assumption | rfl) only [M_leftOf, M_rightOf hn hI hi, M_moves, M_add, k_nm, k_jn, k_cI, k_cJ, k_cP, k_cV, k_rZ0, k_rZ1, k_nn, k_nu1, k_nu0, k_nl1, k_nl0, lit0, lit1, lit2, lit3, lit4, lit5, lit6, lit7, lit8, lit9, lit10, lit11, lit12, lit20, lit24, lit31, lit32, lit40, lit48, lit60, lit240, lit540, lit999, lit1000, lit98, lit99, lit100, lit107, lit112, lit114, lit115, mM_is, mM_i0, mM_pi0, mM_i2, mM_pi2, mM_i10, mM_pi10, mM_i11, mM_pi11, mM_i15, mM_pi15, mM_i16, mM_pi16, mM_i17, mM_pi17, mM_i18, mM_pi18, mM_i21, mM_pi21, mM_i30, mM_pi30, mM_i31, mM_pi31, mM_i32, mM_pi32, mM_i33, mM_pi33, mM_l3, mM_pl3, mM_l4, mM_pl4, mM_l35, mM_pl35, mM_r1, mM_a1, mM_s1, mM_r5, mM_a2, mM_s2, mM_r6, mM_a3, mM_s3, mM_r7, mM_a4, mM_s4, mM_r8, mM_a5, mM_s5, mM_r9, mM_a6, mM_s6, mM_r12, mM_a7, mM_s7, mM_r13, mM_a8, mM_s8, mM_r14, mM_a9, mM_s9, mM_r19, mM_a10, mM_s10, mM_r20, mM_a11, mM_s11, mM_r22, mM_a12, mM_s12, mM_r23, mM_a13, mM_s13, mM_r24, mM_a14, mM_s14, mM_r25, mM_a15, mM_s15, mM_r26, mM_a16, mM_s16, mM_r27, mM_a17, mM_s17, mM_r28, mM_a18, mM_s18, mM_r29, mM_a19, mM_s19, mM_r34, mM_a20, mM_s20, iN_add, iN_mul, va_ups, va_upp, va_upn]
  by_cases h0 : A 7 i = iN 0
  · simp only [h0, if_true]
  · simp only [h0, if_false]
    by_cases h1 : A 7 i = iN 1
    · simp only [h1, if_true]
    · simp only [h1, if_false]
      by_cases h2 : A 7 i = iN 2
      · have h23 : ¬ iN 2 = iN 3 := by decide
        have h24 : ¬ iN 2 = iN 4 := by decide
        simp only [h2, h23, h24, if_true, if_false]
      · simp only [h2, if_false]
        by_cases h3 : A 7 i = iN 3
        · simp only [h3, if_true]
        · simp only [h3, if_false]
          by_cases h4 : A 7 i = iN 4
          · simp only [h4, if_true]
          · simp only [h4, if_false]
theorem mM_extB {c : Nat} {B' : Nat → Nat → Nat → Int32} (h : ∀ c, B c = B' c ∨ (mW c ≠ 0 ∧ ∀ a b, b < mW c → B c a b = B' c a b)) : mM I L A B = mM I L A B' := by
  have : ∀ c, mC A B c = mC A B' c := by
    intro c
    unfold mC
    rcases h c with h | ⟨h0, h1⟩
    · rw [h]
    · rw [if_neg h0, if_neg h0]
      funext j
      exact h1 _ _ (Nat.mod_lt _ (by omega))
  unfold mM
  simp only [this]
theorem mM_ext11 {P P' : Nat → Nat → Int32} (h : ∀ a b, b < 9 → P a b = P' a b) : mM I L A (va_up B 11 P) = mM I L A (va_up B 11 P') := by
  refine mM_extB (c := 11) fun c => ?_
  by_cases hc : c = 11
  · subst hc
    right
    rw [va_ups, va_ups]
    exact ⟨by decide, fun a b hb => h a b hb⟩
  · left
    rw [va_upn hc, va_upn hc]
theorem M_copyL {f g : Nat} (hf : f < 15) (hg : g < 15) (hfg : f ≠ g) : ∀ (m k fu : Nat) (B : Nat → Nat → Nat → Int32), k + m = 9 → m < fu → (∀ i, i < k → B 11 g i = B 11 f i) → fX2_copyTo_L2 0 (iN f) (iN g) fu (iN k) (mM I L A B) = some (none, mM I L A (va_up B 11 (va_up (B 11) g (B 11 f)))) := by
  intro m
  induction m with
  | zero =>
    intro k fu B hk hfu hB
    obtain ⟨fu, rfl⟩ : ∃ q, fu = q + 1 := ⟨fu - 1, by omega⟩
    obtain rfl : k = 9 := by omega
    rw [fX2_copyTo_L2]
    simp (disch := first | omega | assumption | rfl) only [k_nm, k_jn, k_cI, k_cJ, k_cP, k_cV, k_rZ0, k_rZ1, k_nn, k_nu1, k_nu0, k_nl1, k_nl0, lit0, lit1, lit2, lit3, lit4, lit5, lit6, lit7, lit8, lit9, lit10, lit11, lit12, lit20, lit24, lit31, lit32, lit40, lit48, lit60, lit240, lit540, lit999, lit1000, lit98, lit99, lit100, lit107, lit112, lit114, lit115, mM_is, mM_i0, mM_pi0, mM_i2, mM_pi2, mM_i10, mM_pi10, mM_i11, mM_pi11, mM_i15, mM_pi15, mM_i16, mM_pi16, mM_i17, mM_pi17, mM_i18, mM_pi18, mM_i21, mM_pi21, mM_i30, mM_pi30, mM_i31, mM_pi31, mM_i32, mM_pi32, mM_i33, mM_pi33, mM_l3, mM_pl3, mM_l4, mM_pl4, mM_l35, mM_pl35, mM_r1, mM_a1, mM_s1, mM_r5, mM_a2, mM_s2, mM_r6, mM_a3, mM_s3, mM_r7, mM_a4, mM_s4, mM_r8, mM_a5, mM_s5, mM_r9, mM_a6, mM_s6, mM_r12, mM_a7, mM_s7, mM_r13, mM_a8, mM_s8, mM_r14, mM_a9, mM_s9, mM_r19, mM_a10, mM_s10, mM_r20, mM_a11, mM_s11, mM_r22, mM_a12, mM_s12, mM_r23, mM_a13, mM_s13, mM_r24, mM_a14, mM_s14, mM_r25, mM_a15, mM_s15, mM_r26, mM_a16, mM_s16, mM_r27, mM_a17, mM_s17, mM_r28, mM_a18, mM_s18, mM_r29, mM_a19, mM_s19, mM_r34, mM_a20, mM_s20, iN_add, iN_mul, va_ups, va_upp, va_upn, iN_le, Nat.le_refl, if_true]
    congr 2
    rw [← va_upid B 11, va_upp, va_ups]
    refine mM_ext11 fun a b hb => ?_
    rw [va_upa]
    split
    · rename_i h
      subst h
      exact hB b hb
    · rfl
  | succ m ih =>
    intro k fu B hk hfu hB
    obtain ⟨fu, rfl⟩ : ∃ q, fu = q + 1 := ⟨fu - 1, by omega⟩
    rw [fX2_copyTo_L2]
    simp (disch := first | omega | assumption | rfl) only [M_v, M_place, k_nm, k_jn, k_cI, k_cJ, k_cP, k_cV, k_rZ0, k_rZ1, k_nn, k_nu1, k_nu0, k_nl1, k_nl0, lit0, lit1, lit2, lit3, lit4, lit5, lit6, lit7, lit8, lit9, lit10, lit11, lit12, lit20, lit24, lit31, lit32, lit40, lit48, lit60, lit240, lit540, lit999, lit1000, lit98, lit99, lit100, lit107, lit112, lit114, lit115, mM_is, mM_i0, mM_pi0, mM_i2, mM_pi2, mM_i10, mM_pi10, mM_i11, mM_pi11, mM_i15, mM_pi15, mM_i16, mM_pi16, mM_i17, mM_pi17, mM_i18, mM_pi18, mM_i21, mM_pi21, mM_i30, mM_pi30, mM_i31, mM_pi31, mM_i32, mM_pi32, mM_i33, mM_pi33, mM_l3, mM_pl3, mM_l4, mM_pl4, mM_l35, mM_pl35, mM_r1, mM_a1, mM_s1, mM_r5, mM_a2, mM_s2, mM_r6, mM_a3, mM_s3, mM_r7, mM_a4, mM_s4, mM_r8, mM_a5, mM_s5, mM_r9, mM_a6, mM_s6, mM_r12, mM_a7, mM_s7, mM_r13, mM_a8, mM_s8, mM_r14, mM_a9, mM_s9, mM_r19, mM_a10, mM_s10, mM_r20, mM_a11, mM_s11, mM_r22, mM_a12, mM_s12, mM_r23, mM_a13, mM_s13, mM_r24, mM_a14, mM_s14, mM_r25, mM_a15, mM_s15, mM_r26, mM_a16, mM_s16, mM_r27, mM_a17, mM_s17, mM_r28, mM_a18, mM_s18, mM_r29, mM_a19, mM_s19, mM_r34, mM_a20, mM_s20, iN_add, iN_mul, va_ups, va_upp, va_upn, iN_le, if_neg]
    rw [ih (k + 1) fu _ (by omega) (by omega)]
    · simp only [va_ups, va_upp, va_upn hfg]
    · intro i hi
      simp only [va_ups, va_upn hfg]
      rw [va_upa]
      by_cases hik : i = k
      · rw [if_pos hik, hik]
      · rw [if_neg hik]
        exact hB i (by omega)
theorem M_copyTo {f g : Nat} (hf : f < 15) (hg : g < 15) (hfg : f ≠ g) : fX2_copyTo (mM I L A B) 0 (iN f) (iN g) = some (none, mM I L A (va_up B 11 (va_up (B 11) g (B 11 f)))) := M_copyL hf hg hfg 9 0 10000 B rfl (by decide) (fun i hi => absurd hi (by omega))
end MSMALL
