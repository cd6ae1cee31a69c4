/-! MY ROWS 32: the component's small methods -/
set_option maxRecDepth 100000
def e9 (p q : Nat → Int32) : Prop := ∀ i, i < 9 → p i = q i
theorem e9_cpy (f g : Nat → Int32) : e9 (va_cpy f g 0 0 9) f := fun i hi => by
  unfold va_cpy
  rw [if_pos ⟨by omega, by omega⟩, Nat.zero_add, Nat.sub_zero]
theorem e9.symm {p q : Nat → Int32} (h : e9 p q) : e9 q p := fun i hi => (h i hi).symm
theorem e9.trans {p q r : Nat → Int32} (h : e9 p q) (g : e9 q r) : e9 p r := fun i hi => (h i hi).trans (g i hi)
theorem e9.refl (p : Nat → Int32) : e9 p p := fun _ _ => rfl
theorem e9.up {p q : Nat → Int32} (h : e9 p q) (k : Nat) (x : Int32) : e9 (va_up p k x) (va_up q k x) := fun i hi => by
  rw [va_upa, va_upa]
  split
  · rfl
  · exact h i hi
theorem e9.mq {p q : Nat → Int32} (h : e9 p q) {a : Nat} (ha : a < 9) (m : Int32) : mq p a m = mq q a m := by
  unfold _root_.mq
  rw [h a ha]
theorem e9.mv {p q : Nat → Int32} (h : e9 p q) {a b : Nat} (ha : a < 9) (hb : b < 9) (m : Int32) : e9 (mv p a b m) (mv q a b m) := by
  unfold _root_.mv
  rw [h.mq ha m, h a ha, (h.up a _) b hb]
  exact (h.up a _).up b _
theorem e9.can {p q : Nat → Int32} (h : e9 p q) {A : Nat → Nat → Int32} {i : Nat} (hi : i < 9) : canV A p i = canV A q i := by
  unfold canV
  rw [h i hi]
theorem e9.thr {p q : Nat → Int32} (h : e9 p q) {A : Nat → Nat → Int32} {n i : Nat} (hn : n ≤ 6) (hi : i < n) : e9 (thr n A p i) (thr n A q i) := by
  have hl := lf_lt (i := i) (by omega)
  have hr := rt_lt hn hi
  unfold _root_.thr
  split
  · exact h.mv (by omega) (by omega) _
  · split
    · exact h.mv (by omega) (by omega) _
    · split
      · exact h.mv (by omega) (by omega) _
      · split
        · exact (h.mv (by omega) (by omega) _).mv (by omega) (by omega) _
        · exact h
theorem e9.play {p q : Nat → Int32} (h : e9 p q) {A : Nat → Nat → Int32} {n i : Nat} (hn : n ≤ 6) (hi : i < n) : e9 (playV n A p i) (playV n A q i) := by
  unfold playV
  rw [h.thr hn hi 8 (by omega)]
  exact (h.thr hn hi).up 8 _
/-- key i of kind k lies in cell id -/
def xKy (A : Nat → Nat → Int32) (Q : Nat → Nat → Option Nat) (W : Nat → Option gE) (i id k : Nat) : Prop := 36 ≤ id ∧ Q 4 i = some id ∧ k ≤ 5 ∧ A 7 i = iN k ∧ W id = some (.inr (3 + k, [.int (iN i), .int (A 8 i), .int (A 9 i)]))
section XSMALL
variable {nx : Nat} {J : Nat → Int32} {K : Nat → Int64} {rd : Value} {a : Nat → Nat → Int32} {Q : Nat → Nat → Option Nat} {W : Nat → Option gE} {A : Nat → Nat → Int32} {n i id k s : Nat}
theorem X_in (μ : gM) (x a b : Int32) : fX0_isIn μ x a b = some (some (.int (bI (inR x a b))), μ) := M_in μ x a b
theorem X_isRow (μ : gM) (x : Int32) : fX0_isRow μ x = some (some (.int (bI (inR x (iN 0) (iN 5)))), μ) := M_isRow μ x
theorem X_isText (μ : gM) (x : Int32) : fX0_isText μ x = some (some (.int (bI (inR x (iN 0) (iN 3)))), μ) := M_isText μ x
theorem X_isKept (μ : gM) (x : Int32) : fX0_isKept μ x = some (some (.int (bI (inR x (iN 0) (iN 2)))), μ) := by
  simp only [fX0_isKept, X_in, k_cI, lit0, lit2, rZb]
theorem X_isHeight (μ : gM) (x : Int32) : fX0_isHeight μ x = some (some (.int (bI (inR x (iN 0) (iN 9)))), μ) := by
  simp only [fX0_isHeight, X_in, k_cI, lit0, lit9, rZb]
theorem X_isKey (x : Int32) : fX0_isKey (mX nx J K rd a Q W) 0 x = some (some (.int (bI (inR x (iN 0) (J 7 - iN 1)))), mX nx J K rd a Q W) := by
  simp only [fX0_isKey, X_in, k_nm, k_jn, k_cI, k_cJ, k_cP, k_cV, k_rZ0, k_rZ1, k_nn, k_nu1, k_nu0, k_nl1, k_nl0, lit0, lit1, lit2, lit3, lit4, lit5, lit6, lit7, lit8, lit9, lit10, lit11, lit12, lit20, lit24, lit31, lit32, lit40, lit48, lit60, lit240, lit540, lit999, lit1000, lit98, lit99, lit100, lit107, lit112, lit114, lit115, mX_sf, mX_ss, mX_sa, mX_st, mX_dq, mX_is, mX_lv, mX_i0, mX_pi0, mX_i2, mX_pi2, mX_i7, mX_pi7, mX_i8, mX_pi8, mX_i12, mX_pi12, mX_i13, mX_pi13, mX_i14, mX_pi14, mX_i19, mX_pi19, mX_i28, mX_pi28, mX_i29, mX_pi29, mX_i31, mX_pi31, mX_i32, mX_pi32, mX_i33, mX_pi33, mX_l3, mX_pl3, mX_l4, mX_pl4, mX_l34, mX_pl34, mX_l35, mX_pl35, mX_p11, mX_r1, mX_a1, mX_s1, mX_r5, mX_q2, mX_sq2, mX_r6, mX_q3, mX_sq3, mX_r9, mX_q4, mX_sq4, mX_r10, mX_r15, mX_a7, mX_s7, mX_r16, mX_a8, mX_s8, mX_r17, mX_a9, mX_s9, mX_r18, mX_a10, mX_s10, mX_r20, mX_a11, mX_s11, mX_r21, mX_q12, mX_sq12, mX_r22, mX_r23, mX_r24, mX_a17, mX_s17, mX_r25, mX_r26, mX_a33, mX_s33, mX_r27, mX_a34, mX_s34, mX_r30, mX_a35, mX_s35, iN_add, iN_mul, va_ups, va_upp, va_upn, rZb]
theorem X_found {f : Nat} (hf : f < 6) : fX0_found (mX nx J K rd a Q W) 0 (iN f) = some (some (.int (-3)), mX nx (va_up J 0 (iN f)) K rd (va_up a 1 (va_up (a 1) f (a 1 f + iN 1))) Q W) := by
  simp (disch := first | omega | assumption | rfl) only [fX0_found, k_nm, k_jn, k_cI, k_cJ, k_cP, k_cV, k_rZ0, k_rZ1, k_nn, k_nu1, k_nu0, k_nl1, k_nl0, lit0, lit1, lit2, lit3, lit4, lit5, lit6, lit7, lit8, lit9, lit10, lit11, lit12, lit20, lit24, lit31, lit32, lit40, lit48, lit60, lit240, lit540, lit999, lit1000, lit98, lit99, lit100, lit107, lit112, lit114, lit115, mX_sf, mX_ss, mX_sa, mX_st, mX_dq, mX_is, mX_lv, mX_i0, mX_pi0, mX_i2, mX_pi2, mX_i7, mX_pi7, mX_i8, mX_pi8, mX_i12, mX_pi12, mX_i13, mX_pi13, mX_i14, mX_pi14, mX_i19, mX_pi19, mX_i28, mX_pi28, mX_i29, mX_pi29, mX_i31, mX_pi31, mX_i32, mX_pi32, mX_i33, mX_pi33, mX_l3, mX_pl3, mX_l4, mX_pl4, mX_l34, mX_pl34, mX_l35, mX_pl35, mX_p11, mX_r1, mX_a1, mX_s1, mX_r5, mX_q2, mX_sq2, mX_r6, mX_q3, mX_sq3, mX_r9, mX_q4, mX_sq4, mX_r10, mX_r15, mX_a7, mX_s7, mX_r16, mX_a8, mX_s8, mX_r17, mX_a9, mX_s9, mX_r18, mX_a10, mX_s10, mX_r20, mX_a11, mX_s11, mX_r21, mX_q12, mX_sq12, mX_r22, mX_r23, mX_r24, mX_a17, mX_s17, mX_r25, mX_r26, mX_a33, mX_s33, mX_r27, mX_a34, mX_s34, mX_r30, mX_a35, mX_s35, iN_add, iN_mul, va_ups, va_upp, va_upn]
theorem X_ask (v w : Int32) : fX0_ask (mX nx J K rd a Q W) 0 v w = some (some (.int w), mX nx (va_up J 2 v) K rd a Q W) := by
  simp (disch := first | omega | assumption | rfl) only [fX0_ask, k_nm, k_jn, k_cI, k_cJ, k_cP, k_cV, k_rZ0, k_rZ1, k_nn, k_nu1, k_nu0, k_nl1, k_nl0, lit0, lit1, lit2, lit3, lit4, lit5, lit6, lit7, lit8, lit9, lit10, lit11, lit12, lit20, lit24, lit31, lit32, lit40, lit48, lit60, lit240, lit540, lit999, lit1000, lit98, lit99, lit100, lit107, lit112, lit114, lit115, mX_sf, mX_ss, mX_sa, mX_st, mX_dq, mX_is, mX_lv, mX_i0, mX_pi0, mX_i2, mX_pi2, mX_i7, mX_pi7, mX_i8, mX_pi8, mX_i12, mX_pi12, mX_i13, mX_pi13, mX_i14, mX_pi14, mX_i19, mX_pi19, mX_i28, mX_pi28, mX_i29, mX_pi29, mX_i31, mX_pi31, mX_i32, mX_pi32, mX_i33, mX_pi33, mX_l3, mX_pl3, mX_l4, mX_pl4, mX_l34, mX_pl34, mX_l35, mX_pl35, mX_p11, mX_r1, mX_a1, mX_s1, mX_r5, mX_q2, mX_sq2, mX_r6, mX_q3, mX_sq3, mX_r9, mX_q4, mX_sq4, mX_r10, mX_r15, mX_a7, mX_s7, mX_r16, mX_a8, mX_s8, mX_r17, mX_a9, mX_s9, mX_r18, mX_a10, mX_s10, mX_r20, mX_a11, mX_s11, mX_r21, mX_q12, mX_sq12, mX_r22, mX_r23, mX_r24, mX_a17, mX_s17, mX_r25, mX_r26, mX_a33, mX_s33, mX_r27, mX_a34, mX_s34, mX_r30, mX_a35, mX_s35, iN_add, iN_mul, va_ups, va_upp, va_upn]
theorem X_move {c d : Nat} (hs : xS s = true) (hc : c < 9) (hd : d < 9) (m : Int32) : fX1_move (mX nx J K rd a Q W) s (iN c) (iN d) m = some (some (.int (mq (a (s + 1)) c m)), mX nx J K rd (va_up a (s + 1) (mv (a (s + 1)) c d m)) Q W) := by
  have hl : ∀ (μ : gM) (x y : Int32), fJ10_min μ x y = some (some (.int (if y < x then y else x)), μ) := by
    intro μ x y
    unfold fJ10_min
    split <;> rfl
  simp (disch := first | omega | assumption | rfl) only [fX1_move, hl, k_nm, k_jn, k_cI, k_cJ, k_cP, k_cV, k_rZ0, k_rZ1, k_nn, k_nu1, k_nu0, k_nl1, k_nl0, lit0, lit1, lit2, lit3, lit4, lit5, lit6, lit7, lit8, lit9, lit10, lit11, lit12, lit20, lit24, lit31, lit32, lit40, lit48, lit60, lit240, lit540, lit999, lit1000, lit98, lit99, lit100, lit107, lit112, lit114, lit115, mX_sf, mX_ss, mX_sa, mX_st, mX_dq, mX_is, mX_lv, mX_i0, mX_pi0, mX_i2, mX_pi2, mX_i7, mX_pi7, mX_i8, mX_pi8, mX_i12, mX_pi12, mX_i13, mX_pi13, mX_i14, mX_pi14, mX_i19, mX_pi19, mX_i28, mX_pi28, mX_i29, mX_pi29, mX_i31, mX_pi31, mX_i32, mX_pi32, mX_i33, mX_pi33, mX_l3, mX_pl3, mX_l4, mX_pl4, mX_l34, mX_pl34, mX_l35, mX_pl35, mX_p11, mX_r1, mX_a1, mX_s1, mX_r5, mX_q2, mX_sq2, mX_r6, mX_q3, mX_sq3, mX_r9, mX_q4, mX_sq4, mX_r10, mX_r15, mX_a7, mX_s7, mX_r16, mX_a8, mX_s8, mX_r17, mX_a9, mX_s9, mX_r18, mX_a10, mX_s10, mX_r20, mX_a11, mX_s11, mX_r21, mX_q12, mX_sq12, mX_r22, mX_r23, mX_r24, mX_a17, mX_s17, mX_r25, mX_r26, mX_a33, mX_s33, mX_r27, mX_a34, mX_s34, mX_r30, mX_a35, mX_s35, iN_add, iN_mul, va_ups, va_upp, va_upn]
  rfl
theorem X_take {t : Nat} (hs : xS s = true) (ht : xS t = true) : fX1_take (mX nx J K rd a Q W) s t = some (none, mX nx J K rd (va_up a (s + 1) (va_cpy (a (t + 1)) (a (s + 1)) 0 0 9)) Q W) := by
  simp (disch := first | omega | assumption | rfl) only [fX1_take, mX_tk, k_nm, k_jn, k_cI, k_cJ, k_cP, k_cV, k_rZ0, k_rZ1, k_nn, k_nu1, k_nu0, k_nl1, k_nl0, lit0, lit1, lit2, lit3, lit4, lit5, lit6, lit7, lit8, lit9, lit10, lit11, lit12, lit20, lit24, lit31, lit32, lit40, lit48, lit60, lit240, lit540, lit999, lit1000, lit98, lit99, lit100, lit107, lit112, lit114, lit115, mX_sf, mX_ss, mX_sa, mX_st, mX_dq, mX_is, mX_lv, mX_i0, mX_pi0, mX_i2, mX_pi2, mX_i7, mX_pi7, mX_i8, mX_pi8, mX_i12, mX_pi12, mX_i13, mX_pi13, mX_i14, mX_pi14, mX_i19, mX_pi19, mX_i28, mX_pi28, mX_i29, mX_pi29, mX_i31, mX_pi31, mX_i32, mX_pi32, mX_i33, mX_pi33, mX_l3, mX_pl3, mX_l4, mX_pl4, mX_l34, mX_pl34, mX_l35, mX_pl35, mX_p11, mX_r1, mX_a1, mX_s1, mX_r5, mX_q2, mX_sq2, mX_r6, mX_q3, mX_sq3, mX_r9, mX_q4, mX_sq4, mX_r10, mX_r15, mX_a7, mX_s7, mX_r16, mX_a8, mX_s8, mX_r17, mX_a9, mX_s9, mX_r18, mX_a10, mX_s10, mX_r20, mX_a11, mX_s11, mX_r21, mX_q12, mX_sq12, mX_r22, mX_r23, mX_r24, mX_a17, mX_s17, mX_r25, mX_r26, mX_a33, mX_s33, mX_r27, mX_a34, mX_s34, mX_r30, mX_a35, mX_s35, iN_add, iN_mul, va_ups, va_upp, va_upn]
theorem X_kc (h : xKy A Q W i id k) (kt : Nat → gR) : gkc (mX nx J K rd a Q W) id kt = kt (3 + k) := by
  unfold gkc
  rw [mX_w h.1, h.2.2.2.2]
theorem X_kl0 (h : xKy A Q W i id k) (kt : Int32 → gR) : gI (gkld (mX nx J K rd a Q W) id 0) kt = kt (iN i) := by
  have := h.2.2.1
  unfold gkld
  rw [mX_w h.1, h.2.2.2.2]
  show gI (if 3 ≤ 3 + k ∧ 3 + k ≤ 8 then _ else _) kt = _
  rw [if_pos ⟨by omega, by omega⟩]
  rfl
theorem X_kl1 (h : xKy A Q W i id k) (kt : Int32 → gR) : gI (gkld (mX nx J K rd a Q W) id 1) kt = kt (A 8 i) := by
  have := h.2.2.1
  unfold gkld
  rw [mX_w h.1, h.2.2.2.2]
  show gI (if 3 ≤ 3 + k ∧ 3 + k ≤ 8 then _ else _) kt = _
  rw [if_pos ⟨by omega, by omega⟩]
  rfl
theorem X_kl2 (h : xKy A Q W i id k) (kt : Int32 → gR) : gI (gkld (mX nx J K rd a Q W) id 2) kt = kt (A 9 i) := by
  have := h.2.2.1
  unfold gkld
  rw [mX_w h.1, h.2.2.2.2]
  show gI (if 3 ≤ 3 + k ∧ 3 + k ≤ 8 then _ else _) kt = _
  rw [if_pos ⟨by omega, by omega⟩]
  rfl
theorem X_ik (h : xKy A Q W i id k) (kt : gR) : gik (mX nx J K rd a Q W) id kt = kt := by
  have := h.2.2.1
  unfold gik
  rw [X_kc h, if_pos ⟨by omega, by omega⟩]
theorem k5 {k : Nat} (h : k ≤ 5) : k = 0 ∨ k = 1 ∨ k = 2 ∨ k = 3 ∨ k = 4 ∨ k = 5 := by omega
theorem X_plays (h : xKy A Q W i id k) (hi : i < 6) (hs : xS s = true) : vX3_plays (mX nx J K rd a Q W) id s = some (some (.int (bI (canV A (a (s + 1)) i))), mX nx J K rd a Q W) := by
  have hp : ∀ x y : Int32, (if x < y then rZ 0 (mX nx J K rd a Q W) else rZ 1 (mX nx J K rd a Q W)) = some (some (.int (bI (!decide (x < y)))), mX nx J K rd a Q W) := by
    intro x y
    by_cases g : x < y
    · rw [if_pos g, decide_eq_true g]
      rfl
    · rw [if_neg g, decide_eq_false g]
      rfl
  have h0 : ∀ x : Int32, x + iN 0 = x := fun x => Int32.add_zero x
  have hm : ∀ x : Int32, ¬ (2147483647 < x) := fun x g => absurd (Int32.lt_iff_toInt_lt.mp g) (by have := Int32.toInt_lt x; have h2 : (2147483647 : Int32).toInt = 2147483647 := rfl; omega)
  have h7 := h.2.2.2.1
  have hb : vX3_bears (mX nx J K rd a Q W) id = some (some (.int (if k = 5 then 2147483647 else A 8 i + (if A 7 i = iN 2 then iN 2 else iN 0))), mX nx J K rd a Q W) := by
    unfold vX3_bears
    rw [X_kc h, h7]
    rcases k5 h.2.2.1 with rfl | rfl | rfl | rfl | rfl | rfl <;> simp (disch := first | omega | assumption | rfl) only [fX3_bears, fX5_bears, fX8_bears, X_ik h, X_kl1 h, k_nm, k_jn, k_cI, k_cJ, k_cP, k_cV, k_rZ0, k_rZ1, k_nn, k_nu1, k_nu0, k_nl1, k_nl0, va_ups, va_upp, va_upn, lit2, Nat.reduceAdd, Nat.reduceEqDiff, if_true, if_false, iN_eq, h0]
  have hf : fX3_plays (mX nx J K rd a Q W) id s = some (some (.int (bI (canV A (a (s + 1)) i))), mX nx J K rd a Q W) := by
    unfold fX3_plays
    simp (disch := first | omega | assumption | rfl) only [X_kl0 h, hb, mX_sf, mX_sa, k_nm, k_jn, k_cI, k_cJ, k_cP, k_cV, k_rZ0, k_rZ1, k_nn, k_nu1, k_nu0, k_nl1, k_nl0, va_ups, va_upp, va_upn]
    rw [hp]
    unfold canV
    rw [h7]
    by_cases g : k = 5
    · subst g
      rw [if_pos rfl, decide_eq_false (hm _)]
      rfl
    · rw [if_neg g, show (iN k == iN 5) = false from beq_false_of_ne (by rw [Ne, iN_eq (by have := h.2.2.1; omega) (by omega)]; exact g), Bool.false_or]
  unfold vX3_plays
  rw [X_kc h]
  rcases k5 h.2.2.1 with rfl | rfl | rfl | rfl | rfl | rfl <;> exact hf
theorem X_left (h : xKy A Q W i id k) (hi : i < 6) : fX3_left (mX nx J K rd a Q W) id = some (some (.int (iN (lf i))), mX nx J K rd a Q W) := by
  unfold fX3_left lf
  simp (disch := first | omega | assumption | rfl) only [X_kl0 h, k_nm, k_jn, k_cI, k_cJ, k_cP, k_cV, k_rZ0, k_rZ1, k_nn, k_nu1, k_nu0, k_nl1, k_nl0, lit0, lit1, lit2, lit3, lit4, lit5, lit6, lit7, lit8, lit9, lit10, lit11, lit12, lit20, lit24, lit31, lit32, lit40, lit48, lit60, lit240, lit540, lit999, lit1000, lit98, lit99, lit100, lit107, lit112, lit114, lit115, mX_sf, mX_ss, mX_sa, mX_st, mX_dq, mX_is, mX_lv, mX_i0, mX_pi0, mX_i2, mX_pi2, mX_i7, mX_pi7, mX_i8, mX_pi8, mX_i12, mX_pi12, mX_i13, mX_pi13, mX_i14, mX_pi14, mX_i19, mX_pi19, mX_i28, mX_pi28, mX_i29, mX_pi29, mX_i31, mX_pi31, mX_i32, mX_pi32, mX_i33, mX_pi33, mX_l3, mX_pl3, mX_l4, mX_pl4, mX_l34, mX_pl34, mX_l35, mX_pl35, mX_p11, mX_r1, mX_a1, mX_s1, mX_r5, mX_q2, mX_sq2, mX_r6, mX_q3, mX_sq3, mX_r9, mX_q4, mX_sq4, mX_r10, mX_r15, mX_a7, mX_s7, mX_r16, mX_a8, mX_s8, mX_r17, mX_a9, mX_s9, mX_r18, mX_a10, mX_s10, mX_r20, mX_a11, mX_s11, mX_r21, mX_q12, mX_sq12, mX_r22, mX_r23, mX_r24, mX_a17, mX_s17, mX_r25, mX_r26, mX_a33, mX_s33, mX_r27, mX_a34, mX_s34, mX_r30, mX_a35, mX_s35, iN_add, iN_mul, va_ups, va_upp, va_upn, iN_eq]
  by_cases g : i = 0
  · rw [if_pos g, if_pos g]
  · rw [if_neg g, if_neg g, iN_sub (by omega)]
theorem X_right (h : xKy A Q W i id k) (hn : n ≤ 6) (hi : i < n) : fX3_right (mX nx J K rd a Q W) id (iN n) = some (some (.int (iN (rt n i))), mX nx J K rd a Q W) := by
  unfold fX3_right rt
  simp (disch := first | omega | assumption | rfl) only [X_kl0 h, k_nm, k_jn, k_cI, k_cJ, k_cP, k_cV, k_rZ0, k_rZ1, k_nn, k_nu1, k_nu0, k_nl1, k_nl0, lit0, lit1, lit2, lit3, lit4, lit5, lit6, lit7, lit8, lit9, lit10, lit11, lit12, lit20, lit24, lit31, lit32, lit40, lit48, lit60, lit240, lit540, lit999, lit1000, lit98, lit99, lit100, lit107, lit112, lit114, lit115, mX_sf, mX_ss, mX_sa, mX_st, mX_dq, mX_is, mX_lv, mX_i0, mX_pi0, mX_i2, mX_pi2, mX_i7, mX_pi7, mX_i8, mX_pi8, mX_i12, mX_pi12, mX_i13, mX_pi13, mX_i14, mX_pi14, mX_i19, mX_pi19, mX_i28, mX_pi28, mX_i29, mX_pi29, mX_i31, mX_pi31, mX_i32, mX_pi32, mX_i33, mX_pi33, mX_l3, mX_pl3, mX_l4, mX_pl4, mX_l34, mX_pl34, mX_l35, mX_pl35, mX_p11, mX_r1, mX_a1, mX_s1, mX_r5, mX_q2, mX_sq2, mX_r6, mX_q3, mX_sq3, mX_r9, mX_q4, mX_sq4, mX_r10, mX_r15, mX_a7, mX_s7, mX_r16, mX_a8, mX_s8, mX_r17, mX_a9, mX_s9, mX_r18, mX_a10, mX_s10, mX_r20, mX_a11, mX_s11, mX_r21, mX_q12, mX_sq12, mX_r22, mX_r23, mX_r24, mX_a17, mX_s17, mX_r25, mX_r26, mX_a33, mX_s33, mX_r27, mX_a34, mX_s34, mX_r30, mX_a35, mX_s35, iN_add, iN_mul, va_ups, va_upp, va_upn, iN_sub, iN_eq]
  by_cases g : i + 1 = n
  · rw [if_pos g, if_pos (by omega)]
  · rw [if_neg g, if_neg (by omega)]
theorem X_throw (h : xKy A Q W i id k) (hn : n ≤ 6) (hi : i < n) (hs : xS s = true) : vX3_throwSand (mX nx J K rd a Q W) id s (iN n) = some (none, mX nx J K rd (va_up a (s + 1) (thr n A (a (s + 1)) i)) Q W) := by
  have hl := lf_lt (i := i) (by omega)
  have hr := rt_lt hn hi
  have h7 := h.2.2.2.1
  unfold vX3_throwSand thr
  rw [X_kc h, h7]
  rcases k5 h.2.2.1 with rfl | rfl | rfl | rfl | rfl | rfl <;>
    simp (disch := first | omega | assumption | rfl) only [fX3_throwSand, fX4_throwSand, fX5_throwSand, fX6_throwSand, fX7_throwSand, vX3_right, vX4_place, vX4_left, vX6_left, vX6_place, vX7_place, vX7_left, vX7_right, fX3_place, X_kc h, X_kl0 h, X_left h, X_right h hn hi, X_move hs, mX_ss, Nat.reduceAdd, Nat.reduceEqDiff, if_true, if_false, iN_eq, k_nm, k_jn, k_cI, k_cJ, k_cP, k_cV, k_rZ0, k_rZ1, k_nn, k_nu1, k_nu0, k_nl1, k_nl0, va_ups, va_upp, va_upn, lit1, lit2, va_upid]
theorem X_pay (h : xKy A Q W i id k) : vX3_pay (mX nx J K rd a Q W) id = some (some (.int (A 9 i)), mX nx J K rd a Q W) := by
  have hf : fX3_pay (mX nx J K rd a Q W) id = some (some (.int (A 9 i)), mX nx J K rd a Q W) := by
    unfold fX3_pay
    rw [X_kl2 h]
  unfold vX3_pay
  rw [X_kc h]
  rcases k5 h.2.2.1 with rfl | rfl | rfl | rfl | rfl | rfl <;> exact hf
theorem X_playIn (h : xKy A Q W i id k) (hn : n ≤ 6) (hJ : J 7 = iN n) (hi : i < n) (hs : xS s = true) : fX0_playIn (mX nx J K rd a Q W) 0 s (iN i) = some (none, mX nx J K rd (va_up a (s + 1) (playV n A (a (s + 1)) i)) Q W) := by
  unfold fX0_playIn playV
  simp (disch := first | omega | assumption | rfl) only [k_nm, k_jn, k_cI, k_cJ, k_cP, k_cV, k_rZ0, k_rZ1, k_nn, k_nu1, k_nu0, k_nl1, k_nl0, lit0, lit1, lit2, lit3, lit4, lit5, lit6, lit7, lit8, lit9, lit10, lit11, lit12, lit20, lit24, lit31, lit32, lit40, lit48, lit60, lit240, lit540, lit999, lit1000, lit98, lit99, lit100, lit107, lit112, lit114, lit115, mX_sf, mX_ss, mX_sa, mX_st, mX_dq, mX_is, mX_lv, mX_i0, mX_pi0, mX_i2, mX_pi2, mX_i7, mX_pi7, mX_i8, mX_pi8, mX_i12, mX_pi12, mX_i13, mX_pi13, mX_i14, mX_pi14, mX_i19, mX_pi19, mX_i28, mX_pi28, mX_i29, mX_pi29, mX_i31, mX_pi31, mX_i32, mX_pi32, mX_i33, mX_pi33, mX_l3, mX_pl3, mX_l4, mX_pl4, mX_l34, mX_pl34, mX_l35, mX_pl35, mX_p11, mX_r1, mX_a1, mX_s1, mX_r5, mX_q2, mX_sq2, mX_r6, mX_q3, mX_sq3, mX_r9, mX_q4, mX_sq4, mX_r10, mX_r15, mX_a7, mX_s7, mX_r16, mX_a8, mX_s8, mX_r17, mX_a9, mX_s9, mX_r18, mX_a10, mX_s10, mX_r20, mX_a11, mX_s11, mX_r21, mX_q12, mX_sq12, mX_r22, mX_r23, mX_r24, mX_a17, mX_s17, mX_r25, mX_r26, mX_a33, mX_s33, mX_r27, mX_a34, mX_s34, mX_r30, mX_a35, mX_s35, iN_add, iN_mul, va_ups, va_upp, va_upn, h.2.1, hJ, X_throw h hn hi hs, X_pay h]
end XSMALL
