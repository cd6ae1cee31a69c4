/-! MY ROWS 34: rows and texts in both -/
set_option maxRecDepth 100000
theorem inR_pre {x : Int32} {len : Nat} (hl : len < 2147483648) : (inR x (iN 0) (iN len - iN 1) = true ∧ ∃ k, k < len ∧ x = iN k) ∨ (inR x (iN 0) (iN len - iN 1) = false ∧ (x < 0 ∨ len ≤ x.toNatClampNeg)) := by
  by_cases h : x < iN 0
  · right
    refine ⟨?_, Or.inl h⟩
    unfold inR
    rw [decide_eq_true h]
    rfl
  · obtain ⟨k, hk, rfl⟩ := iN_of (Int32.not_lt.mp h)
    by_cases hl0 : len = 0
    · subst hl0
      right
      refine ⟨?_, Or.inr (Nat.zero_le _)⟩
      unfold inR
      have h1 : iN 0 - iN 1 < iN k := by
        rw [Int32.lt_iff_toInt_lt, iN_toInt hk]
        have : (iN 0 - iN 1).toInt = -1 := by decide
        omega
      rw [decide_eq_true h1]
      simp only [Bool.not_true, Bool.and_false]
    · rw [iN_sub (by omega), inR_iN hk (by omega)]
      by_cases hkl : k < len
      · left
        exact ⟨decide_eq_true (by omega), k, hkl, rfl⟩
      · right
        refine ⟨decide_eq_false (by omega), Or.inr ?_⟩
        rw [iN_nat hk]
        omega
theorem neg1_lt : ¬ iN 0 ≤ (-1 : Int32) := by decide
theorem neg1_ge : (-1 : Int32) < iN 0 := by decide
theorem mM_extR {I : Nat → Int32} {L : Nat → Int64} {A : Nat → Nat → Int32} {B : Nat → Nat → Nat → Int32} {c : Nat} (hw : mW c ≠ 0) {P P' : Nat → Nat → Int32} (h : ∀ a b, b < mW c → P a b = P' a b) : mM I L A (va_up B c P) = mM I L A (va_up B c P') := by
  refine mM_extB (c := c) fun d => ?_
  by_cases hd : d = c
  · subst hd
    right
    rw [va_ups, va_ups]
    exact ⟨hw, fun a b hb => h a b hb⟩
  · left
    rw [va_upn hd, va_upn hd]
theorem mM_extRow {I : Nat → Int32} {L : Nat → Int64} {A : Nat → Nat → Int32} {B : Nat → Nat → Nat → Int32} {c r : Nat} (hw : mW c ≠ 0) {β : Nat → Int32} (h : ∀ b, b < mW c → B c r b = β b) : mM I L A B = mM I L A (va_up B c (va_up (B c) r β)) := by
  rw [← va_upid B c, va_upp, va_ups]
  refine mM_extR hw fun a b hb => ?_
  rw [va_upa]
  split
  · rename_i e
    subst e
    exact h b hb
  · rfl
section WCELL
variable {nx : Nat} {J : Nat → Int32} {K : Nat → Int64} {rd : Value} {a : Nat → Nat → Int32} {Q : Nat → Nat → Option Nat} {W : Nat → Option gE} {id t len : Nat} {ρ : Nat → Int32}
theorem W_ar (hi : 36 ≤ id) (hW : W id = some (.inl (t, len, .inl ρ))) : garI (mX nx J K rd a Q W) t id = some (len, ρ) := by
  unfold garI
  rw [mX_w hi, hW]
  exact if_pos rfl
theorem W_aI {k : Nat} (hi : 36 ≤ id) (hW : W id = some (.inl (t, len, .inl ρ))) (hk : k < len) (hl : len < 2147483648) (kt : Int32 → gR) : gaI (mX nx J K rd a Q W) t id (iN k) kt = kt (ρ k) := by
  unfold gaI
  rw [W_ar hi hW]
  show (if iN k < 0 ∨ len ≤ (iN k).toNatClampNeg then _ else _) = _
  rw [if_neg (by rw [iN_off (by omega)]; omega)]
  show kt (ρ (iN k).toNatClampNeg) = _
  rw [iN_nat (by omega)]
theorem W_sI {k : Nat} (hi : 36 ≤ id) (hW : W id = some (.inl (t, len, .inl ρ))) (hk : k < len) (hl : len < 2147483648) (x : Int32) (kt : gM → gR) : gsI (mX nx J K rd a Q W) t id (iN k) x kt = kt (mX nx J K rd a Q (va_up W id (some (.inl (t, len, .inl (va_up ρ k x)))))) := by
  unfold gsI
  rw [W_ar hi hW]
  show (if iN k < 0 ∨ len ≤ (iN k).toNatClampNeg then _ else _) = _
  rw [if_neg (by rw [iN_off (by omega)]; omega)]
  show kt (gset _ id (.inl (t, len, .inl (upd ρ (iN k).toNatClampNeg x)))) = _
  rw [iN_nat (by omega), mX_setW hi]
  rfl
theorem W_len (hi : 36 ≤ id) (hW : W id = some (.inl (t, len, .inl ρ))) (kt : Int32 → gR) : glen (mX nx J K rd a Q W) t id kt = kt (iN len) := by
  unfold glen
  rw [mX_w hi, hW]
  exact if_pos rfl
theorem W_ha (hi : 36 ≤ id) (hW : W id = some (.inl (t, len, .inl ρ))) (kt : gR) : gha (mX nx J K rd a Q W) t id kt = kt := by
  unfold gha
  rw [W_ar hi hW]
theorem W_lv {e : gE} (hi : 36 ≤ id) (hW : W id = some e) (kt : gR) : glv (mX nx J K rd a Q W) id kt = kt := by
  unfold glv
  rw [mX_w hi, hW]
theorem W_fld {c k : Nat} {fs : List Value} (hi : 36 ≤ id) (hW : W id = some (.inr (c, fs))) : gfld (mX nx J K rd a Q W) id c k = fs[k]? := by
  unfold gfld
  rw [mX_w hi, hW]
  exact if_pos rfl
theorem W_is {c : Nat} {fs : List Value} (hi : 36 ≤ id) (hW : W id = some (.inr (c, fs))) (kt : gR) : gis (mX nx J K rd a Q W) id c kt = kt := by
  unfold gis
  rw [mX_w hi, hW]
  exact if_pos rfl
theorem W_pf {c k : Nat} {fs : List Value} {v : Value} (hi : 36 ≤ id) (hW : W id = some (.inr (c, fs))) (hk : k < fs.length) (kt : gM → gR) : gpf (mX nx J K rd a Q W) id c k v kt = kt (mX nx J K rd a Q (va_up W id (some (.inr (c, fs.set k v))))) := by
  unfold gpf
  rw [mX_w hi, hW]
  show (if c = c ∧ k < fs.length then _ else _) = _
  rw [if_pos ⟨rfl, hk⟩]
  show kt (gset _ id (.inr (c, fs.set k v))) = _
  rw [mX_setW hi]
theorem W_ald {x : Int32} (hi : 36 ≤ id) (hW : W id = some (.inl (t, len, .inl ρ))) (hl : len < 2147483648) (kN kO : gR) (kt : Int32 → gR) : tald (mX nx J K rd a Q W) t (some id) x kN kO kt = if inR x (iN 0) (iN len - iN 1) = true then kt (ρ x.toNatClampNeg) else kO := by
  unfold tald
  show (match garI (mX nx J K rd a Q W) t id with | some (n, f) => if 2 ^ 31 ≤ n then none else if x < 0 ∨ n ≤ x.toNatClampNeg then kO else kt (f x.toNatClampNeg) | none => none) = _
  rw [W_ar hi hW]
  show (if 2 ^ 31 ≤ len then none else if x < 0 ∨ len ≤ x.toNatClampNeg then kO else kt (ρ x.toNatClampNeg)) = _
  rw [if_neg (by omega)]
  rcases inR_pre (x := x) hl with ⟨h1, k, hk, rfl⟩ | ⟨h1, h2⟩
  · rw [h1, if_pos rfl, if_neg (by rw [iN_off (by omega)]; omega)]
  · rw [h1, if_pos h2]
    rfl
end WCELL
/-- W' holds what W held, but in the cell of label l; labels stay -/
def tr (W W' : Nat → Option gE) (O O' : Nat → Nat) (l : Nat) : Prop := (∀ id e, W id = some e → (O id ≠ l ∨ ∃ c fs, e = .inr (c, fs)) → W' id = some e) ∧ ∀ id e, W id = some e → O' id = O id
section TR
variable {bd n dm nx nx' l : Nat} {I J : Nat → Int32} {L K : Nat → Int64} {A a : Nat → Nat → Int32} {B : Nat → Nat → Nat → Int32} {Q : Nat → Nat → Option Nat} {W W' : Nat → Option gE} {O O' : Nat → Nat} {rd : Value}
theorem tr.refl : tr W W O O l := ⟨fun _ _ h _ => h, fun _ _ _ => rfl⟩
theorem tr.set {id t len : Nat} {ρ : Nat → Int32} {e : gE} (hW : W id = some (.inl (t, len, .inl ρ))) (hO : O id = l) : tr W (va_up W id (some e)) O O l := by
  refine ⟨fun j f hj hd => ?_, fun _ _ _ => rfl⟩
  rw [va_upn, hj]
  rintro rfl
  rcases hd with hd | ⟨c, fs, rfl⟩
  · exact hd hO
  · rw [hW] at hj
    cases hj
theorem tr.new (h0 : r0 nx W) {e : gE} {o : Nat} : tr W (va_up W nx (some e)) O (va_up O nx o) l := by
  have key : ∀ j f, W j = some f → j ≠ nx := fun j f hj hn => by
    subst hn
    rw [h0.2 j (Nat.le_refl _)] at hj
    cases hj
  exact ⟨fun j f hj _ => by rw [va_upn (key j f hj), hj], fun j f hj => va_upn (key j f hj)⟩
theorem r0.new (h0 : r0 nx W) (e : gE) : r0 (nx + 1) (va_up W nx (some e)) := ⟨by have := h0.1; omega, fun j hj => by rw [va_upn (by omega)]; exact h0.2 j (by omega)⟩
theorem r0.set (h0 : r0 nx W) {id : Nat} {e f : gE} (hW : W id = some f) : r0 nx (va_up W id (some e)) := ⟨h0.1, fun j hj => by
  rw [va_upn]
  · exact h0.2 j hj
  · rintro rfl
    rw [h0.2 j hj] at hW
    cases hW⟩
theorem r4.tr (h : r4 n I A J Q W) (ht : tr W W' O O' l) : r4 n I A J Q W' := by
  obtain ⟨d0, d1, d2, d3, d4, d5⟩ := h
  refine ⟨d0, d1, d2, d3, d4, fun i hi => ?_⟩
  obtain ⟨id, k, g1, g2, g3, g4, g5⟩ := d5 i hi
  exact ⟨id, k, g1, g2, g3, g4, ht.1 id _ g5 (Or.inr ⟨_, _, rfl⟩)⟩
theorem rRow.tr {A2 A2' : Nat → Int32} {B3 B3' : Nat → Nat → Int32} {Q2 Q2' : Nat → Option Nat} (h : rRow A2 B3 Q2 W O) (ht : tr W W' O O' l) (hs : ∀ r, r < 6 → (r ≠ l ∧ A2' r = A2 r ∧ B3' r = B3 r ∧ Q2' r = Q2 r) ∨ ((Q2' r = none ∧ A2' r = -1) ∨ ∃ (id len : Nat) (ρ : Nat → Int32), Q2' r = some id ∧ 36 ≤ id ∧ W' id = some (.inl (0, len, .inl ρ)) ∧ len ≤ 40 ∧ A2' r = iN len ∧ (∀ i, i < len → ρ i = B3' r i) ∧ O' id = r)) : rRow A2' B3' Q2' W' O' := by
  intro r hr
  rcases hs r hr with ⟨hl, e1, e2, e3⟩ | hs
  · rw [e1, e3, e2]
    rcases h r hr with h | ⟨id, len, ρ, g1, g2, g3, g4, g5, g6, g7⟩
    · exact Or.inl h
    · exact Or.inr ⟨id, len, ρ, g1, g2, ht.1 id _ g3 (Or.inl (by rw [g7]; exact hl)), g4, g5, g6, by rw [ht.2 id _ g3, g7]⟩
  · exact hs
theorem rTxt.tr {A2 A2' : Nat → Int32} {B3 B3' : Nat → Nat → Int32} {Q2 Q2' : Nat → Option Nat} (h : rTxt A2 B3 Q2 W O) (ht : tr W W' O O' l) (hs : ∀ r, r < 4 → (10 + r ≠ l ∧ A2' r = A2 r ∧ B3' r = B3 r ∧ Q2' r = Q2 r) ∨ ((Q2' r = none ∧ A2' r = -1) ∨ ∃ (id len : Nat) (ρ : Nat → Int32), Q2' r = some id ∧ 36 ≤ id ∧ W' id = some (.inl (1, len, .inl ρ)) ∧ len ≤ 60 ∧ A2' r = iN len ∧ (∀ i, i < len → ρ i = B3' r i) ∧ O' id = 10 + r)) : rTxt A2' B3' Q2' W' O' := by
  intro r hr
  rcases hs r hr with ⟨hl, e1, e2, e3⟩ | hs
  · rw [e1, e3, e2]
    rcases h r hr with h | ⟨id, len, ρ, g1, g2, g3, g4, g5, g6, g7⟩
    · exact Or.inl h
    · exact Or.inr ⟨id, len, ρ, g1, g2, ht.1 id _ g3 (Or.inl (by rw [g7]; exact hl)), g4, g5, g6, by rw [ht.2 id _ g3, g7]⟩
  · exact hs
theorem rKpt.tr {Q12 : Nat → Option Nat} (h : rKpt bd A B Q12 W O) (ht : tr W W' O O' l) (hl : l < 20) : rKpt bd A B Q12 W' O' := by
  intro k hk
  rcases h k hk with h | ⟨id, ids, ida, idd, d, ρ, τ, g1, g2, g3, g4, g5, g6, ⟨o1, o2, o3⟩, g8⟩
  · exact Or.inl h
  · exact Or.inr ⟨id, ids, ida, idd, d, ρ, τ, g1, g2, ht.1 _ _ g3 (Or.inr ⟨_, _, rfl⟩), ht.1 _ _ g4 (Or.inr ⟨_, _, rfl⟩), ht.1 _ _ g5 (Or.inl (by omega)), ht.1 _ _ g6 (Or.inl (by omega)), ⟨by rw [ht.2 _ _ g3, o1], by rw [ht.2 _ _ g5, o2], by rw [ht.2 _ _ g6, o3]⟩, g8⟩
/-- a change of the rows -/
theorem rel.rows (h : rel bd n dm I L A B nx J K a Q W O) (hl : l < 10) (ht : tr W W' O O' l) (h0 : r0 nx' W') {A2 : Nat → Int32} {B3 : Nat → Nat → Int32} {Q2 : Nat → Option Nat} (hR : rRow A2 B3 Q2 W' O') : rel bd n dm I L (va_up A 2 A2) (va_up B 3 B3) nx' J K a (va_up Q 2 Q2) W' O' := by
  obtain ⟨-, h1, h2, h3, h4, h5, h6, h7⟩ := h
  exact ⟨h0, h1, hR, h3.tr ht (fun r hr => Or.inl ⟨by omega, rfl, rfl, rfl⟩), h4.tr ht, h5, h6, h7.tr ht (by omega)⟩
theorem rel.texts (h : rel bd n dm I L A B nx J K a Q W O) (hl : 10 ≤ l ∧ l < 20) (ht : tr W W' O O' l) (h0 : r0 nx' W') {A5 : Nat → Int32} {B6 : Nat → Nat → Int32} {Q3 : Nat → Option Nat} (hR : rTxt A5 B6 Q3 W' O') : rel bd n dm I L (va_up A 5 A5) (va_up B 6 B6) nx' J K a (va_up Q 3 Q3) W' O' := by
  obtain ⟨-, h1, h2, h3, h4, h5, h6, h7⟩ := h
  exact ⟨h0, h1, h2.tr ht (fun r hr => Or.inl ⟨by omega, rfl, rfl, rfl⟩), hR, h4.tr ht, h5, h6, h7.tr ht (by omega)⟩
end TR
theorem S_at (x y : Int32) : Sim (fun μ => fX2_at μ 0 x y) (fun μ => fX0_at μ 0 x y) := Sim.of fun bd n dm nx I J L K A a B Q W O rd hb hb2 h => by
  simp only [fX2_at, fX0_at, M_isRow, X_isRow, k_cI, lit0, bI0]
  cases hc : inR x (iN 0) (iN 5)
  · exact h.out _
  · obtain ⟨r, hr, rfl⟩ := inR_of (by omega) hc
    simp (disch := first | omega | assumption | rfl) only [k_nm, k_jn, k_cI, k_cJ, k_cP, k_cV, k_rZ0, k_rZ1, k_nn, k_nu1, k_nu0, k_nl1, k_nl0, lit0, lit1, lit2, lit3, lit4, lit5, lit6, lit7, lit8, lit9, lit10, lit11, lit12, lit20, lit24, lit31, lit32, lit40, lit48, lit60, lit240, lit540, lit999, lit1000, lit98, lit99, lit100, lit107, lit112, lit114, lit115, mM_is, mM_i0, mM_pi0, mM_i2, mM_pi2, mM_i10, mM_pi10, mM_i11, mM_pi11, mM_i15, mM_pi15, mM_i16, mM_pi16, mM_i17, mM_pi17, mM_i18, mM_pi18, mM_i21, mM_pi21, mM_i30, mM_pi30, mM_i31, mM_pi31, mM_i32, mM_pi32, mM_i33, mM_pi33, mM_l3, mM_pl3, mM_l4, mM_pl4, mM_l35, mM_pl35, mM_r1, mM_a1, mM_s1, mM_r5, mM_a2, mM_s2, mM_r6, mM_a3, mM_s3, mM_r7, mM_a4, mM_s4, mM_r8, mM_a5, mM_s5, mM_r9, mM_a6, mM_s6, mM_r12, mM_a7, mM_s7, mM_r13, mM_a8, mM_s8, mM_r14, mM_a9, mM_s9, mM_r19, mM_a10, mM_s10, mM_r20, mM_a11, mM_s11, mM_r22, mM_a12, mM_s12, mM_r23, mM_a13, mM_s13, mM_r24, mM_a14, mM_s14, mM_r25, mM_a15, mM_s15, mM_r26, mM_a16, mM_s16, mM_r27, mM_a17, mM_s17, mM_r28, mM_a18, mM_s18, mM_r29, mM_a19, mM_s19, mM_r34, mM_a20, mM_s20, mX_sf, mX_ss, mX_sa, mX_st, mX_dq, mX_is, mX_lv, mX_i0, mX_pi0, mX_i2, mX_pi2, mX_i7, mX_pi7, mX_i8, mX_pi8, mX_i12, mX_pi12, mX_i13, mX_pi13, mX_i14, mX_pi14, mX_i19, mX_pi19, mX_i28, mX_pi28, mX_i29, mX_pi29, mX_i31, mX_pi31, mX_i32, mX_pi32, mX_i33, mX_pi33, mX_l3, mX_pl3, mX_l4, mX_pl4, mX_l34, mX_pl34, mX_l35, mX_pl35, mX_p11, mX_r1, mX_a1, mX_s1, mX_r5, mX_q2, mX_sq2, mX_r6, mX_q3, mX_sq3, mX_r9, mX_q4, mX_sq4, mX_r10, mX_r15, mX_a7, mX_s7, mX_r16, mX_a8, mX_s8, mX_r17, mX_a9, mX_s9, mX_r18, mX_a10, mX_s10, mX_r20, mX_a11, mX_s11, mX_r21, mX_q12, mX_sq12, mX_r22, mX_r23, mX_r24, mX_a17, mX_s17, mX_r25, mX_r26, mX_a33, mX_s33, mX_r27, mX_a34, mX_s34, mX_r30, mX_a35, mX_s35, iN_add, iN_mul, va_ups, va_upp, va_upn, Bool.true_eq_false, if_false]
    rcases h.2.2.1 r (by omega) with ⟨hq, ha⟩ | ⟨id, len, ρ, hq, hi, hW, hl, ha, hρ, hO⟩
    · simp (disch := first | omega | assumption | rfl) only [hq, ha, neg1_lt, if_false, tald, M_meets, X_found, k_nm, k_jn, k_cI, k_cJ, k_cP, k_cV, k_rZ0, k_rZ1, k_nn, k_nu1, k_nu0, k_nl1, k_nl0, lit0, lit1, lit2, lit3, lit4, lit5, lit6, lit7, lit8, lit9, lit10, lit11, lit12, lit20, lit24, lit31, lit32, lit40, lit48, lit60, lit240, lit540, lit999, lit1000, lit98, lit99, lit100, lit107, lit112, lit114, lit115, mM_is, mM_i0, mM_pi0, mM_i2, mM_pi2, mM_i10, mM_pi10, mM_i11, mM_pi11, mM_i15, mM_pi15, mM_i16, mM_pi16, mM_i17, mM_pi17, mM_i18, mM_pi18, mM_i21, mM_pi21, mM_i30, mM_pi30, mM_i31, mM_pi31, mM_i32, mM_pi32, mM_i33, mM_pi33, mM_l3, mM_pl3, mM_l4, mM_pl4, mM_l35, mM_pl35, mM_r1, mM_a1, mM_s1, mM_r5, mM_a2, mM_s2, mM_r6, mM_a3, mM_s3, mM_r7, mM_a4, mM_s4, mM_r8, mM_a5, mM_s5, mM_r9, mM_a6, mM_s6, mM_r12, mM_a7, mM_s7, mM_r13, mM_a8, mM_s8, mM_r14, mM_a9, mM_s9, mM_r19, mM_a10, mM_s10, mM_r20, mM_a11, mM_s11, mM_r22, mM_a12, mM_s12, mM_r23, mM_a13, mM_s13, mM_r24, mM_a14, mM_s14, mM_r25, mM_a15, mM_s15, mM_r26, mM_a16, mM_s16, mM_r27, mM_a17, mM_s17, mM_r28, mM_a18, mM_s18, mM_r29, mM_a19, mM_s19, mM_r34, mM_a20, mM_s20, mX_sf, mX_ss, mX_sa, mX_st, mX_dq, mX_is, mX_lv, mX_i0, mX_pi0, mX_i2, mX_pi2, mX_i7, mX_pi7, mX_i8, mX_pi8, mX_i12, mX_pi12, mX_i13, mX_pi13, mX_i14, mX_pi14, mX_i19, mX_pi19, mX_i28, mX_pi28, mX_i29, mX_pi29, mX_i31, mX_pi31, mX_i32, mX_pi32, mX_i33, mX_pi33, mX_l3, mX_pl3, mX_l4, mX_pl4, mX_l34, mX_pl34, mX_l35, mX_pl35, mX_p11, mX_r1, mX_a1, mX_s1, mX_r5, mX_q2, mX_sq2, mX_r6, mX_q3, mX_sq3, mX_r9, mX_q4, mX_sq4, mX_r10, mX_r15, mX_a7, mX_s7, mX_r16, mX_a8, mX_s8, mX_r17, mX_a9, mX_s9, mX_r18, mX_a10, mX_s10, mX_r20, mX_a11, mX_s11, mX_r21, mX_q12, mX_sq12, mX_r22, mX_r23, mX_r24, mX_a17, mX_s17, mX_r25, mX_r26, mX_a33, mX_s33, mX_r27, mX_a34, mX_s34, mX_r30, mX_a35, mX_s35, iN_add, iN_mul, va_ups, va_upp, va_upn]
      exact (h.fnd (by omega)).out _
    · simp (disch := first | omega | assumption | rfl) only [hq, ha, iN_le, Nat.zero_le, if_true, M_in, W_ald hi hW, k_nm, k_jn, k_cI, k_cJ, k_cP, k_cV, k_rZ0, k_rZ1, k_nn, k_nu1, k_nu0, k_nl1, k_nl0, lit0, lit1, lit2, lit3, lit4, lit5, lit6, lit7, lit8, lit9, lit10, lit11, lit12, lit20, lit24, lit31, lit32, lit40, lit48, lit60, lit240, lit540, lit999, lit1000, lit98, lit99, lit100, lit107, lit112, lit114, lit115, mM_is, mM_i0, mM_pi0, mM_i2, mM_pi2, mM_i10, mM_pi10, mM_i11, mM_pi11, mM_i15, mM_pi15, mM_i16, mM_pi16, mM_i17, mM_pi17, mM_i18, mM_pi18, mM_i21, mM_pi21, mM_i30, mM_pi30, mM_i31, mM_pi31, mM_i32, mM_pi32, mM_i33, mM_pi33, mM_l3, mM_pl3, mM_l4, mM_pl4, mM_l35, mM_pl35, mM_r1, mM_a1, mM_s1, mM_r5, mM_a2, mM_s2, mM_r6, mM_a3, mM_s3, mM_r7, mM_a4, mM_s4, mM_r8, mM_a5, mM_s5, mM_r9, mM_a6, mM_s6, mM_r12, mM_a7, mM_s7, mM_r13, mM_a8, mM_s8, mM_r14, mM_a9, mM_s9, mM_r19, mM_a10, mM_s10, mM_r20, mM_a11, mM_s11, mM_r22, mM_a12, mM_s12, mM_r23, mM_a13, mM_s13, mM_r24, mM_a14, mM_s14, mM_r25, mM_a15, mM_s15, mM_r26, mM_a16, mM_s16, mM_r27, mM_a17, mM_s17, mM_r28, mM_a18, mM_s18, mM_r29, mM_a19, mM_s19, mM_r34, mM_a20, mM_s20, mX_sf, mX_ss, mX_sa, mX_st, mX_dq, mX_is, mX_lv, mX_i0, mX_pi0, mX_i2, mX_pi2, mX_i7, mX_pi7, mX_i8, mX_pi8, mX_i12, mX_pi12, mX_i13, mX_pi13, mX_i14, mX_pi14, mX_i19, mX_pi19, mX_i28, mX_pi28, mX_i29, mX_pi29, mX_i31, mX_pi31, mX_i32, mX_pi32, mX_i33, mX_pi33, mX_l3, mX_pl3, mX_l4, mX_pl4, mX_l34, mX_pl34, mX_l35, mX_pl35, mX_p11, mX_r1, mX_a1, mX_s1, mX_r5, mX_q2, mX_sq2, mX_r6, mX_q3, mX_sq3, mX_r9, mX_q4, mX_sq4, mX_r10, mX_r15, mX_a7, mX_s7, mX_r16, mX_a8, mX_s8, mX_r17, mX_a9, mX_s9, mX_r18, mX_a10, mX_s10, mX_r20, mX_a11, mX_s11, mX_r21, mX_q12, mX_sq12, mX_r22, mX_r23, mX_r24, mX_a17, mX_s17, mX_r25, mX_r26, mX_a33, mX_s33, mX_r27, mX_a34, mX_s34, mX_r30, mX_a35, mX_s35, iN_add, iN_mul, va_ups, va_upp, va_upn, bI0]
      rcases inR_pre (x := y) (len := len) (by omega) with ⟨h1, k, hk, rfl⟩ | ⟨h1, h2⟩
      · simp (disch := first | omega | assumption | rfl) only [h1, Bool.true_eq_false, if_true, if_false, iN_nat, M_rowAt, M_tells, X_ask, hρ k, k_nm, k_jn, k_cI, k_cJ, k_cP, k_cV, k_rZ0, k_rZ1, k_nn, k_nu1, k_nu0, k_nl1, k_nl0, lit0, lit1, lit2, lit3, lit4, lit5, lit6, lit7, lit8, lit9, lit10, lit11, lit12, lit20, lit24, lit31, lit32, lit40, lit48, lit60, lit240, lit540, lit999, lit1000, lit98, lit99, lit100, lit107, lit112, lit114, lit115, mM_is, mM_i0, mM_pi0, mM_i2, mM_pi2, mM_i10, mM_pi10, mM_i11, mM_pi11, mM_i15, mM_pi15, mM_i16, mM_pi16, mM_i17, mM_pi17, mM_i18, mM_pi18, mM_i21, mM_pi21, mM_i30, mM_pi30, mM_i31, mM_pi31, mM_i32, mM_pi32, mM_i33, mM_pi33, mM_l3, mM_pl3, mM_l4, mM_pl4, mM_l35, mM_pl35, mM_r1, mM_a1, mM_s1, mM_r5, mM_a2, mM_s2, mM_r6, mM_a3, mM_s3, mM_r7, mM_a4, mM_s4, mM_r8, mM_a5, mM_s5, mM_r9, mM_a6, mM_s6, mM_r12, mM_a7, mM_s7, mM_r13, mM_a8, mM_s8, mM_r14, mM_a9, mM_s9, mM_r19, mM_a10, mM_s10, mM_r20, mM_a11, mM_s11, mM_r22, mM_a12, mM_s12, mM_r23, mM_a13, mM_s13, mM_r24, mM_a14, mM_s14, mM_r25, mM_a15, mM_s15, mM_r26, mM_a16, mM_s16, mM_r27, mM_a17, mM_s17, mM_r28, mM_a18, mM_s18, mM_r29, mM_a19, mM_s19, mM_r34, mM_a20, mM_s20, mX_sf, mX_ss, mX_sa, mX_st, mX_dq, mX_is, mX_lv, mX_i0, mX_pi0, mX_i2, mX_pi2, mX_i7, mX_pi7, mX_i8, mX_pi8, mX_i12, mX_pi12, mX_i13, mX_pi13, mX_i14, mX_pi14, mX_i19, mX_pi19, mX_i28, mX_pi28, mX_i29, mX_pi29, mX_i31, mX_pi31, mX_i32, mX_pi32, mX_i33, mX_pi33, mX_l3, mX_pl3, mX_l4, mX_pl4, mX_l34, mX_pl34, mX_l35, mX_pl35, mX_p11, mX_r1, mX_a1, mX_s1, mX_r5, mX_q2, mX_sq2, mX_r6, mX_q3, mX_sq3, mX_r9, mX_q4, mX_sq4, mX_r10, mX_r15, mX_a7, mX_s7, mX_r16, mX_a8, mX_s8, mX_r17, mX_a9, mX_s9, mX_r18, mX_a10, mX_s10, mX_r20, mX_a11, mX_s11, mX_r21, mX_q12, mX_sq12, mX_r22, mX_r23, mX_r24, mX_a17, mX_s17, mX_r25, mX_r26, mX_a33, mX_s33, mX_r27, mX_a34, mX_s34, mX_r30, mX_a35, mX_s35, iN_add, iN_mul, va_ups, va_upp, va_upn]
        exact (h.ask _).out _
      · simp (disch := first | omega | assumption | rfl) only [h1, Bool.false_eq_true, if_true, if_false, M_meets, X_found, k_nm, k_jn, k_cI, k_cJ, k_cP, k_cV, k_rZ0, k_rZ1, k_nn, k_nu1, k_nu0, k_nl1, k_nl0, lit0, lit1, lit2, lit3, lit4, lit5, lit6, lit7, lit8, lit9, lit10, lit11, lit12, lit20, lit24, lit31, lit32, lit40, lit48, lit60, lit240, lit540, lit999, lit1000, lit98, lit99, lit100, lit107, lit112, lit114, lit115, mM_is, mM_i0, mM_pi0, mM_i2, mM_pi2, mM_i10, mM_pi10, mM_i11, mM_pi11, mM_i15, mM_pi15, mM_i16, mM_pi16, mM_i17, mM_pi17, mM_i18, mM_pi18, mM_i21, mM_pi21, mM_i30, mM_pi30, mM_i31, mM_pi31, mM_i32, mM_pi32, mM_i33, mM_pi33, mM_l3, mM_pl3, mM_l4, mM_pl4, mM_l35, mM_pl35, mM_r1, mM_a1, mM_s1, mM_r5, mM_a2, mM_s2, mM_r6, mM_a3, mM_s3, mM_r7, mM_a4, mM_s4, mM_r8, mM_a5, mM_s5, mM_r9, mM_a6, mM_s6, mM_r12, mM_a7, mM_s7, mM_r13, mM_a8, mM_s8, mM_r14, mM_a9, mM_s9, mM_r19, mM_a10, mM_s10, mM_r20, mM_a11, mM_s11, mM_r22, mM_a12, mM_s12, mM_r23, mM_a13, mM_s13, mM_r24, mM_a14, mM_s14, mM_r25, mM_a15, mM_s15, mM_r26, mM_a16, mM_s16, mM_r27, mM_a17, mM_s17, mM_r28, mM_a18, mM_s18, mM_r29, mM_a19, mM_s19, mM_r34, mM_a20, mM_s20, mX_sf, mX_ss, mX_sa, mX_st, mX_dq, mX_is, mX_lv, mX_i0, mX_pi0, mX_i2, mX_pi2, mX_i7, mX_pi7, mX_i8, mX_pi8, mX_i12, mX_pi12, mX_i13, mX_pi13, mX_i14, mX_pi14, mX_i19, mX_pi19, mX_i28, mX_pi28, mX_i29, mX_pi29, mX_i31, mX_pi31, mX_i32, mX_pi32, mX_i33, mX_pi33, mX_l3, mX_pl3, mX_l4, mX_pl4, mX_l34, mX_pl34, mX_l35, mX_pl35, mX_p11, mX_r1, mX_a1, mX_s1, mX_r5, mX_q2, mX_sq2, mX_r6, mX_q3, mX_sq3, mX_r9, mX_q4, mX_sq4, mX_r10, mX_r15, mX_a7, mX_s7, mX_r16, mX_a8, mX_s8, mX_r17, mX_a9, mX_s9, mX_r18, mX_a10, mX_s10, mX_r20, mX_a11, mX_s11, mX_r21, mX_q12, mX_sq12, mX_r22, mX_r23, mX_r24, mX_a17, mX_s17, mX_r25, mX_r26, mX_a33, mX_s33, mX_r27, mX_a34, mX_s34, mX_r30, mX_a35, mX_s35, iN_add, iN_mul, va_ups, va_upp, va_upn]
        exact (h.fnd (by omega)).out _
theorem S_tear (x : Int32) : Sim (fun μ => fX2_tear μ 0 x) (fun μ => fX0_tear μ 0 x) := Sim.of fun bd n dm nx I J L K A a B Q W O rd hb hb2 h => by
  simp only [fX2_tear, fX0_tear, M_isRow, X_isRow, k_cI, lit0, bI0]
  cases hc : inR x (iN 0) (iN 5)
  · exact h.out _
  · obtain ⟨r, hr, rfl⟩ := inR_of (by omega) hc
    simp (disch := first | omega | assumption | rfl) only [k_nm, k_jn, k_cI, k_cJ, k_cP, k_cV, k_rZ0, k_rZ1, k_nn, k_nu1, k_nu0, k_nl1, k_nl0, lit0, lit1, lit2, lit3, lit4, lit5, lit6, lit7, lit8, lit9, lit10, lit11, lit12, lit20, lit24, lit31, lit32, lit40, lit48, lit60, lit240, lit540, lit999, lit1000, lit98, lit99, lit100, lit107, lit112, lit114, lit115, mM_is, mM_i0, mM_pi0, mM_i2, mM_pi2, mM_i10, mM_pi10, mM_i11, mM_pi11, mM_i15, mM_pi15, mM_i16, mM_pi16, mM_i17, mM_pi17, mM_i18, mM_pi18, mM_i21, mM_pi21, mM_i30, mM_pi30, mM_i31, mM_pi31, mM_i32, mM_pi32, mM_i33, mM_pi33, mM_l3, mM_pl3, mM_l4, mM_pl4, mM_l35, mM_pl35, mM_r1, mM_a1, mM_s1, mM_r5, mM_a2, mM_s2, mM_r6, mM_a3, mM_s3, mM_r7, mM_a4, mM_s4, mM_r8, mM_a5, mM_s5, mM_r9, mM_a6, mM_s6, mM_r12, mM_a7, mM_s7, mM_r13, mM_a8, mM_s8, mM_r14, mM_a9, mM_s9, mM_r19, mM_a10, mM_s10, mM_r20, mM_a11, mM_s11, mM_r22, mM_a12, mM_s12, mM_r23, mM_a13, mM_s13, mM_r24, mM_a14, mM_s14, mM_r25, mM_a15, mM_s15, mM_r26, mM_a16, mM_s16, mM_r27, mM_a17, mM_s17, mM_r28, mM_a18, mM_s18, mM_r29, mM_a19, mM_s19, mM_r34, mM_a20, mM_s20, mX_sf, mX_ss, mX_sa, mX_st, mX_dq, mX_is, mX_lv, mX_i0, mX_pi0, mX_i2, mX_pi2, mX_i7, mX_pi7, mX_i8, mX_pi8, mX_i12, mX_pi12, mX_i13, mX_pi13, mX_i14, mX_pi14, mX_i19, mX_pi19, mX_i28, mX_pi28, mX_i29, mX_pi29, mX_i31, mX_pi31, mX_i32, mX_pi32, mX_i33, mX_pi33, mX_l3, mX_pl3, mX_l4, mX_pl4, mX_l34, mX_pl34, mX_l35, mX_pl35, mX_p11, mX_r1, mX_a1, mX_s1, mX_r5, mX_q2, mX_sq2, mX_r6, mX_q3, mX_sq3, mX_r9, mX_q4, mX_sq4, mX_r10, mX_r15, mX_a7, mX_s7, mX_r16, mX_a8, mX_s8, mX_r17, mX_a9, mX_s9, mX_r18, mX_a10, mX_s10, mX_r20, mX_a11, mX_s11, mX_r21, mX_q12, mX_sq12, mX_r22, mX_r23, mX_r24, mX_a17, mX_s17, mX_r25, mX_r26, mX_a33, mX_s33, mX_r27, mX_a34, mX_s34, mX_r30, mX_a35, mX_s35, iN_add, iN_mul, va_ups, va_upp, va_upn, Bool.true_eq_false, if_false]
    rcases h.2.2.1 r (by omega) with ⟨hq, ha⟩ | ⟨id, len, ρ, hq, hi, hW, hl, ha, hρ, hO⟩
    · simp (disch := first | omega | assumption | rfl) only [hq, ha, neg1_lt, if_false, M_meets, X_found, k_nm, k_jn, k_cI, k_cJ, k_cP, k_cV, k_rZ0, k_rZ1, k_nn, k_nu1, k_nu0, k_nl1, k_nl0, lit0, lit1, lit2, lit3, lit4, lit5, lit6, lit7, lit8, lit9, lit10, lit11, lit12, lit20, lit24, lit31, lit32, lit40, lit48, lit60, lit240, lit540, lit999, lit1000, lit98, lit99, lit100, lit107, lit112, lit114, lit115, mM_is, mM_i0, mM_pi0, mM_i2, mM_pi2, mM_i10, mM_pi10, mM_i11, mM_pi11, mM_i15, mM_pi15, mM_i16, mM_pi16, mM_i17, mM_pi17, mM_i18, mM_pi18, mM_i21, mM_pi21, mM_i30, mM_pi30, mM_i31, mM_pi31, mM_i32, mM_pi32, mM_i33, mM_pi33, mM_l3, mM_pl3, mM_l4, mM_pl4, mM_l35, mM_pl35, mM_r1, mM_a1, mM_s1, mM_r5, mM_a2, mM_s2, mM_r6, mM_a3, mM_s3, mM_r7, mM_a4, mM_s4, mM_r8, mM_a5, mM_s5, mM_r9, mM_a6, mM_s6, mM_r12, mM_a7, mM_s7, mM_r13, mM_a8, mM_s8, mM_r14, mM_a9, mM_s9, mM_r19, mM_a10, mM_s10, mM_r20, mM_a11, mM_s11, mM_r22, mM_a12, mM_s12, mM_r23, mM_a13, mM_s13, mM_r24, mM_a14, mM_s14, mM_r25, mM_a15, mM_s15, mM_r26, mM_a16, mM_s16, mM_r27, mM_a17, mM_s17, mM_r28, mM_a18, mM_s18, mM_r29, mM_a19, mM_s19, mM_r34, mM_a20, mM_s20, mX_sf, mX_ss, mX_sa, mX_st, mX_dq, mX_is, mX_lv, mX_i0, mX_pi0, mX_i2, mX_pi2, mX_i7, mX_pi7, mX_i8, mX_pi8, mX_i12, mX_pi12, mX_i13, mX_pi13, mX_i14, mX_pi14, mX_i19, mX_pi19, mX_i28, mX_pi28, mX_i29, mX_pi29, mX_i31, mX_pi31, mX_i32, mX_pi32, mX_i33, mX_pi33, mX_l3, mX_pl3, mX_l4, mX_pl4, mX_l34, mX_pl34, mX_l35, mX_pl35, mX_p11, mX_r1, mX_a1, mX_s1, mX_r5, mX_q2, mX_sq2, mX_r6, mX_q3, mX_sq3, mX_r9, mX_q4, mX_sq4, mX_r10, mX_r15, mX_a7, mX_s7, mX_r16, mX_a8, mX_s8, mX_r17, mX_a9, mX_s9, mX_r18, mX_a10, mX_s10, mX_r20, mX_a11, mX_s11, mX_r21, mX_q12, mX_sq12, mX_r22, mX_r23, mX_r24, mX_a17, mX_s17, mX_r25, mX_r26, mX_a33, mX_s33, mX_r27, mX_a34, mX_s34, mX_r30, mX_a35, mX_s35, iN_add, iN_mul, va_ups, va_upp, va_upn]
      exact (h.fnd (by omega)).out _
    · simp (disch := first | omega | assumption | rfl) only [hq, ha, iN_le, Nat.zero_le, if_true, k_nm, k_jn, k_cI, k_cJ, k_cP, k_cV, k_rZ0, k_rZ1, k_nn, k_nu1, k_nu0, k_nl1, k_nl0, lit0, lit1, lit2, lit3, lit4, lit5, lit6, lit7, lit8, lit9, lit10, lit11, lit12, lit20, lit24, lit31, lit32, lit40, lit48, lit60, lit240, lit540, lit999, lit1000, lit98, lit99, lit100, lit107, lit112, lit114, lit115, mM_is, mM_i0, mM_pi0, mM_i2, mM_pi2, mM_i10, mM_pi10, mM_i11, mM_pi11, mM_i15, mM_pi15, mM_i16, mM_pi16, mM_i17, mM_pi17, mM_i18, mM_pi18, mM_i21, mM_pi21, mM_i30, mM_pi30, mM_i31, mM_pi31, mM_i32, mM_pi32, mM_i33, mM_pi33, mM_l3, mM_pl3, mM_l4, mM_pl4, mM_l35, mM_pl35, mM_r1, mM_a1, mM_s1, mM_r5, mM_a2, mM_s2, mM_r6, mM_a3, mM_s3, mM_r7, mM_a4, mM_s4, mM_r8, mM_a5, mM_s5, mM_r9, mM_a6, mM_s6, mM_r12, mM_a7, mM_s7, mM_r13, mM_a8, mM_s8, mM_r14, mM_a9, mM_s9, mM_r19, mM_a10, mM_s10, mM_r20, mM_a11, mM_s11, mM_r22, mM_a12, mM_s12, mM_r23, mM_a13, mM_s13, mM_r24, mM_a14, mM_s14, mM_r25, mM_a15, mM_s15, mM_r26, mM_a16, mM_s16, mM_r27, mM_a17, mM_s17, mM_r28, mM_a18, mM_s18, mM_r29, mM_a19, mM_s19, mM_r34, mM_a20, mM_s20, mX_sf, mX_ss, mX_sa, mX_st, mX_dq, mX_is, mX_lv, mX_i0, mX_pi0, mX_i2, mX_pi2, mX_i7, mX_pi7, mX_i8, mX_pi8, mX_i12, mX_pi12, mX_i13, mX_pi13, mX_i14, mX_pi14, mX_i19, mX_pi19, mX_i28, mX_pi28, mX_i29, mX_pi29, mX_i31, mX_pi31, mX_i32, mX_pi32, mX_i33, mX_pi33, mX_l3, mX_pl3, mX_l4, mX_pl4, mX_l34, mX_pl34, mX_l35, mX_pl35, mX_p11, mX_r1, mX_a1, mX_s1, mX_r5, mX_q2, mX_sq2, mX_r6, mX_q3, mX_sq3, mX_r9, mX_q4, mX_sq4, mX_r10, mX_r15, mX_a7, mX_s7, mX_r16, mX_a8, mX_s8, mX_r17, mX_a9, mX_s9, mX_r18, mX_a10, mX_s10, mX_r20, mX_a11, mX_s11, mX_r21, mX_q12, mX_sq12, mX_r22, mX_r23, mX_r24, mX_a17, mX_s17, mX_r25, mX_r26, mX_a33, mX_s33, mX_r27, mX_a34, mX_s34, mX_r30, mX_a35, mX_s35, iN_add, iN_mul, va_ups, va_upp, va_upn]
      have := h.rows (l := r) (W' := W) (O' := O) (nx' := nx) (A2 := va_up (A 2) r (-1)) (B3 := B 3) (Q2 := va_up (Q 2) r none) (by omega) tr.refl h.1 (h.2.2.1.tr (l := r) tr.refl fun j hj => by
        by_cases e : j = r
        · subst e
          rw [va_ups, va_ups]
          exact Or.inr (Or.inl ⟨rfl, rfl⟩)
        · rw [va_upn e, va_upn e]
          exact Or.inl ⟨e, rfl, rfl, rfl⟩)
      rw [va_upid] at this
      exact this.out _
