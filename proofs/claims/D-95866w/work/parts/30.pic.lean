/-! MY ROWS 30: the two memories as pictures -/
set_option maxRecDepth 100000
theorem va_upa {α : Type} (f : Nat → α) (k : Nat) (v : α) (j : Nat) : va_up f k v j = if j = k then v else f j := rfl
theorem va_ups {α : Type} (f : Nat → α) (k : Nat) (v : α) : va_up f k v k = v := if_pos rfl
theorem va_upn {α : Type} {f : Nat → α} {k : Nat} {v : α} {j : Nat} (h : j ≠ k) : va_up f k v j = f j := if_neg h
theorem va_upe {α : Type} {f : Nat → α} {k : Nat} {v : α} {j : Nat} (h : j = k) : va_up f k v j = v := if_pos h
theorem va_upp {α : Type} (f : Nat → α) (k : Nat) (v w : α) : va_up (va_up f k v) k w = va_up f k w := by
  funext j
  simp only [va_upa]
  split <;> rfl
theorem va_upid {α : Type} (f : Nat → α) (k : Nat) : va_up f k (f k) = f := by
  funext j
  rw [va_upa]
  split
  · rename_i h
    rw [h]
  · rfl
theorem upd_va (f : Nat → Int32) (k : Nat) (x : Int32) : upd f k x = va_up f k x := rfl
def iN (k : Nat) : Int32 := Int32.ofNat k
theorem iN_add (a b : Nat) : iN a + iN b = iN (a + b) := (Int32.ofNat_add a b).symm
theorem iN_mul (a b : Nat) : iN a * iN b = iN (a * b) := (Int32.ofNat_mul a b).symm
theorem iN_sub {a b : Nat} (h : b ≤ a) : iN a - iN b = iN (a - b) := (Int32.ofNat_sub a b h).symm
theorem iN_toInt {a : Nat} (h : a < 2147483648) : (iN a).toInt = a := Int32.toInt_ofNat_of_lt h
theorem iN_nat {a : Nat} (h : a < 2147483648) : (iN a).toNatClampNeg = a := by
  have h1 := iN_toInt h
  unfold Int32.toNatClampNeg
  omega
theorem iN_lt {a b : Nat} (ha : a < 2147483648) (hb : b < 2147483648) : (iN a < iN b) = (a < b) := by
  rw [Int32.lt_iff_toInt_lt, iN_toInt ha, iN_toInt hb]
  exact propext ⟨fun h => by omega, fun h => by omega⟩
theorem iN_le {a b : Nat} (ha : a < 2147483648) (hb : b < 2147483648) : (iN a ≤ iN b) = (a ≤ b) := by
  rw [Int32.le_iff_toInt_le, iN_toInt ha, iN_toInt hb]
  exact propext ⟨fun h => by omega, fun h => by omega⟩
theorem iN_eq {a b : Nat} (ha : a < 2147483648) (hb : b < 2147483648) : (iN a = iN b) = (a = b) := by
  refine propext ⟨fun h => ?_, fun h => by rw [h]⟩
  have := congrArg Int32.toInt h
  rw [iN_toInt ha, iN_toInt hb] at this
  omega
theorem iN_off {a n : Nat} (ha : a < 2147483648) : (iN a < 0 ∨ n ≤ (iN a).toNatClampNeg) = (n ≤ a) := by
  rw [iN_nat ha]
  have h : ¬ iN a < iN 0 := by rw [iN_lt ha (by omega)]; omega
  exact propext ⟨fun g => g.resolve_left h, Or.inr⟩
theorem iN_of {x : Int32} (h : 0 ≤ x) : ∃ k : Nat, k < 2147483648 ∧ x = iN k := by
  have h1 := (Int32.le_iff_toInt_le).mp h
  have h3 := Int32.toInt_lt x
  have h2 : (0 : Int32).toInt = 0 := rfl
  rw [h2] at h1
  refine ⟨x.toInt.toNat, by omega, ?_⟩
  apply Int32.toInt_inj.mp
  rw [iN_toInt (by omega)]
  omega
theorem iN_in {x : Int32} {n : Nat} (hn : n < 2147483648) (h0 : ¬ x < 0) (h1 : ¬ iN n < x) : ∃ k : Nat, k ≤ n ∧ x = iN k := by
  obtain ⟨k, hk, rfl⟩ := iN_of (Int32.not_lt.mp h0)
  rw [iN_lt hn hk] at h1
  exact ⟨k, by omega, rfl⟩

theorem lit0 : (0 : Int32) = iN 0 := rfl
theorem lit1 : (1 : Int32) = iN 1 := rfl
theorem lit2 : (2 : Int32) = iN 2 := rfl
theorem lit3 : (3 : Int32) = iN 3 := rfl
theorem lit4 : (4 : Int32) = iN 4 := rfl
theorem lit5 : (5 : Int32) = iN 5 := rfl
theorem lit6 : (6 : Int32) = iN 6 := rfl
theorem lit7 : (7 : Int32) = iN 7 := rfl
theorem lit8 : (8 : Int32) = iN 8 := rfl
theorem lit9 : (9 : Int32) = iN 9 := rfl
theorem lit10 : (10 : Int32) = iN 10 := rfl
theorem lit11 : (11 : Int32) = iN 11 := rfl
theorem lit12 : (12 : Int32) = iN 12 := rfl
theorem lit20 : (20 : Int32) = iN 20 := rfl
theorem lit24 : (24 : Int32) = iN 24 := rfl
theorem lit31 : (31 : Int32) = iN 31 := rfl
theorem lit32 : (32 : Int32) = iN 32 := rfl
theorem lit40 : (40 : Int32) = iN 40 := rfl
theorem lit48 : (48 : Int32) = iN 48 := rfl
theorem lit60 : (60 : Int32) = iN 60 := rfl
theorem lit240 : (240 : Int32) = iN 240 := rfl
theorem lit540 : (540 : Int32) = iN 540 := rfl
theorem lit999 : (999 : Int32) = iN 999 := rfl
theorem lit1000 : (1000 : Int32) = iN 1000 := rfl
theorem lit98 : (98 : Int32) = iN 98 := rfl
theorem lit99 : (99 : Int32) = iN 99 := rfl
theorem lit100 : (100 : Int32) = iN 100 := rfl
theorem lit107 : (107 : Int32) = iN 107 := rfl
theorem lit112 : (112 : Int32) = iN 112 := rfl
theorem lit114 : (114 : Int32) = iN 114 := rfl
theorem lit115 : (115 : Int32) = iN 115 := rfl
theorem k_nm {α : Type} (e : α) (kt : α → gR) : gnm e kt = kt e := rfl
theorem k_jn {α : Type} (f : α) (k : α → gR) : gjn f k = k f := rfl
theorem k_cI (x : Int32) (μ : gM) (kt : Int32 → gM → gR) : cI (some (some (.int x), μ)) kt = kt x μ := rfl
theorem k_cJ (x : Int64) (μ : gM) (kt : Int64 → gM → gR) : cJ (some (some (.long x), μ)) kt = kt x μ := rfl
theorem k_cP (x : Nat) (μ : gM) (kt : Nat → gM → gR) : cP (some (some (.ref x), μ)) kt = kt x μ := rfl
theorem k_cV (μ : gM) (kt : gM → gR) : cV (some (none, μ)) kt = kt μ := rfl
theorem k_rZ0 (μ : gM) : rZ (iN 0) μ = some (some (.int (iN 0)), μ) := rfl
theorem k_rZ1 (μ : gM) : rZ (iN 1) μ = some (some (.int (iN 1)), μ) := rfl
theorem k_nn (j : Nat) (kt : Nat → gR) : gnn (some j) kt = kt j := rfl
theorem k_nu1 (j : Nat) (k0 k1 : gR) : gnu (some j) k0 k1 = k1 := rfl
theorem k_nu0 (k0 k1 : gR) : gnu none k0 k1 = k0 := rfl
theorem k_nl1 (j : Nat) (k0 : gR) (k1 : Nat → gR) : gnl (some j) k0 k1 = k1 j := rfl
theorem k_nl0 (k0 : gR) (k1 : Nat → gR) : gnl none k0 k1 = k0 := rfl
def mF (I : Nat → Int32) (L : Nat → Int64) : List Value := [.int (I 0), .ref 1, .int (I 2), .long (L 3), .long (L 4), .ref 2, .ref 3, .ref 4, .ref 5, .ref 6, .int (I 10), .int (I 11), .ref 7, .ref 8, .ref 9, .int (I 15), .int (I 16), .int (I 17), .int (I 18), .ref 10, .ref 11, .int (I 21), .ref 12, .ref 13, .ref 14, .ref 15, .ref 16, .ref 17, .ref 18, .ref 19, .int (I 30), .int (I 31), .int (I 32), .int (I 33), .ref 20, .long (L 35)]
def mT (c : Nat) : Nat := match c with | 6 => 1 | 13 => 2 | _ => 0
def mN (c : Nat) : Nat := match c with | 1 => 6 | 2 => 6 | 3 => 240 | 4 => 40 | 5 => 4 | 6 => 240 | 7 => 6 | 8 => 6 | 9 => 6 | 10 => 24 | 11 => 135 | 12 => 540 | 13 => 3 | 14 => 3 | 15 => 3 | 16 => 27 | 17 => 1620 | 18 => 12 | 19 => 12 | 20 => 7776 | _ => 0
def mW (c : Nat) : Nat := match c with | 3 => 40 | 6 => 60 | 10 => 4 | 11 => 9 | 16 => 9 | 17 => 540 | 20 => 6 | _ => 0
def mC (A : Nat → Nat → Int32) (B : Nat → Nat → Nat → Int32) (c : Nat) : Nat → Int32 := if mW c = 0 then A c else fun j => B c (j / mW c) (j % mW c)
/-- the memory of SandPianoModel: its fields I, L; its arrays A (flat), B (in rows), by their cells -/
def mM (I : Nat → Int32) (L : Nat → Int64) (A : Nat → Nat → Int32) (B : Nat → Nat → Nat → Int32) : gM := (21, fun i => if i = 0 then some (.inr (2, mF I L)) else if i < 21 then some (.inl (mT i, mN i, .inl (mC A B i))) else none)
section MPIC
variable {I : Nat → Int32} {L : Nat → Int64} {A : Nat → Nat → Int32} {B : Nat → Nat → Nat → Int32}
theorem mM_c {c : Nat} (h0 : c ≠ 0) (h1 : c < 21) : (mM I L A B).2 c = some (.inl (mT c, mN c, .inl (mC A B c))) := by
  show (if c = 0 then _ else if c < 21 then _ else _) = _
  rw [if_neg h0, if_pos h1]
theorem mM_ar {c : Nat} (h0 : c ≠ 0) (h1 : c < 21) : garI (mM I L A B) (mT c) c = some (mN c, mC A B c) := by
  unfold garI
  rw [mM_c h0 h1]
  exact if_pos rfl
theorem mM_setA {c : Nat} (h0 : c ≠ 0) (h1 : c < 21) (hw : mW c = 0) (g : Nat → Int32) : gset (mM I L A B) c (.inl (mT c, mN c, .inl g)) = mM I L (va_up A c g) B := by
  refine Prod.ext rfl ?_
  funext i
  show va_up _ c _ i = (if i = 0 then _ else if i < 21 then _ else _)
  rw [va_upa]
  by_cases hi : i = c
  · subst hi
    rw [if_pos rfl, if_neg h0, if_pos h1]
    unfold mC
    rw [if_pos hw, va_ups]
  · rw [if_neg hi]
    show (if i = 0 then _ else if i < 21 then _ else _) = _
    have : mC (va_up A c g) B i = mC A B i := by
      unfold mC
      rw [va_upn hi]
    rw [this]
theorem mM_setB {c : Nat} (h0 : c ≠ 0) (h1 : c < 21) (hw : mW c ≠ 0) (g : Nat → Int32) (B' : Nat → Nat → Int32) (hg : ∀ j, g j = B' (j / mW c) (j % mW c)) : gset (mM I L A B) c (.inl (mT c, mN c, .inl g)) = mM I L A (va_up B c B') := by
  refine Prod.ext rfl ?_
  funext i
  show va_up _ c _ i = (if i = 0 then _ else if i < 21 then _ else _)
  rw [va_upa]
  by_cases hi : i = c
  · subst hi
    rw [if_pos rfl, if_neg h0, if_pos h1]
    unfold mC
    rw [if_neg hw, va_ups]
    rw [show g = _ from funext hg]
  · rw [if_neg hi]
    show (if i = 0 then _ else if i < 21 then _ else _) = _
    have : mC A (va_up B c B') i = mC A B i := by
      unfold mC
      rw [va_upn hi]
    rw [this]
theorem mM_setF {k : Nat} {v : Value} {I' : Nat → Int32} {L' : Nat → Int64} (h : (mF I L).set k v = mF I' L') : gset (mM I L A B) 0 (.inr (2, (mF I L).set k v)) = mM I' L' A B := by
  refine Prod.ext rfl ?_
  funext i
  show va_up _ 0 _ i = (if i = 0 then _ else if i < 21 then _ else _)
  rw [va_upa, h]
  by_cases hi : i = 0
  · rw [if_pos hi, if_pos hi]
  · rw [if_neg hi, if_neg hi]
    show (if i = 0 then _ else if i < 21 then _ else _) = _
    rw [if_neg hi]
theorem mM_aI {c k : Nat} (h0 : c ≠ 0) (h1 : c < 21) (hk : k < mN c) (hs : mN c < 2147483648) (kt : Int32 → gR) : gaI (mM I L A B) (mT c) c (iN k) kt = kt (mC A B c k) := by
  unfold gaI
  rw [mM_ar h0 h1]
  show (if iN k < 0 ∨ mN c ≤ (iN k).toNatClampNeg then _ else _) = _
  rw [if_neg (by rw [iN_off (by omega)]; omega)]
  show kt (mC A B c (iN k).toNatClampNeg) = _
  rw [iN_nat (by omega)]
theorem mM_sI {c k : Nat} (h0 : c ≠ 0) (h1 : c < 21) (hk : k < mN c) (hs : mN c < 2147483648) (x : Int32) (kt : gM → gR) : gsI (mM I L A B) (mT c) c (iN k) x kt = kt (gset (mM I L A B) c (.inl (mT c, mN c, .inl (upd (mC A B c) k x)))) := by
  unfold gsI
  rw [mM_ar h0 h1]
  show (if iN k < 0 ∨ mN c ≤ (iN k).toNatClampNeg then _ else _) = _
  rw [if_neg (by rw [iN_off (by omega)]; omega)]
  show kt (gset _ c (.inl (mT c, mN c, .inl (upd (mC A B c) (iN k).toNatClampNeg x)))) = _
  rw [iN_nat (by omega)]
theorem m_div {w a b : Nat} (hb : b < w) : (w * a + b) / w = a := by
  rw [Nat.mul_add_div (by omega), Nat.div_eq_of_lt hb, Nat.add_zero]
theorem m_mod {w a b : Nat} (hb : b < w) : (w * a + b) % w = b := by
  rw [Nat.mul_add_mod, Nat.mod_eq_of_lt hb]
theorem mM_sB {c a b : Nat} (h0 : c ≠ 0) (h1 : c < 21) (hb : b < mW c) (hk : mW c * a + b < mN c) (hs : mN c < 2147483648) (x : Int32) (kt : gM → gR) : gsI (mM I L A B) (mT c) c (iN (mW c * a + b)) x kt = kt (mM I L A (va_up B c (va_up (B c) a (va_up (B c a) b x)))) := by
  rw [mM_sI h0 h1 hk hs, mM_setB h0 h1 (by omega)]
  intro j
  unfold mC
  rw [if_neg (by omega)]
  show (if j = mW c * a + b then x else _) = _
  by_cases hj : j = mW c * a + b
  · rw [if_pos hj, hj, m_div hb, m_mod hb, va_ups, va_ups]
  · rw [if_neg hj, va_upa]
    by_cases h2 : j / mW c = a
    · rw [if_pos h2, va_upa, if_neg]
      · show B c (j / mW c) (j % mW c) = _
        rw [h2]
      intro h3
      apply hj
      have := Nat.div_add_mod j (mW c)
      rw [h2, h3] at this
      omega
    · rw [if_neg h2]

theorem mM_is (kt : gR) : gis (mM I L A B) 0 2 kt = kt := rfl
theorem mM_lv (kt : gR) : glv (mM I L A B) 0 kt = kt := rfl
theorem mM_i0 (kt : Int32 → gR) : gI (gfld (mM I L A B) 0 2 0) kt = kt (I 0) := rfl
theorem mM_pi0 (v : Int32) (kt : gM → gR) : gpf (mM I L A B) 0 2 0 (.int v) kt = kt (mM (va_up I 0 v) L A B) := congrArg kt (mM_setF (k := 0) rfl)
theorem mM_i2 (kt : Int32 → gR) : gI (gfld (mM I L A B) 0 2 2) kt = kt (I 2) := rfl
theorem mM_pi2 (v : Int32) (kt : gM → gR) : gpf (mM I L A B) 0 2 2 (.int v) kt = kt (mM (va_up I 2 v) L A B) := congrArg kt (mM_setF (k := 2) rfl)
theorem mM_i10 (kt : Int32 → gR) : gI (gfld (mM I L A B) 0 2 10) kt = kt (I 10) := rfl
theorem mM_pi10 (v : Int32) (kt : gM → gR) : gpf (mM I L A B) 0 2 10 (.int v) kt = kt (mM (va_up I 10 v) L A B) := congrArg kt (mM_setF (k := 10) rfl)
theorem mM_i11 (kt : Int32 → gR) : gI (gfld (mM I L A B) 0 2 11) kt = kt (I 11) := rfl
theorem mM_pi11 (v : Int32) (kt : gM → gR) : gpf (mM I L A B) 0 2 11 (.int v) kt = kt (mM (va_up I 11 v) L A B) := congrArg kt (mM_setF (k := 11) rfl)
theorem mM_i15 (kt : Int32 → gR) : gI (gfld (mM I L A B) 0 2 15) kt = kt (I 15) := rfl
theorem mM_pi15 (v : Int32) (kt : gM → gR) : gpf (mM I L A B) 0 2 15 (.int v) kt = kt (mM (va_up I 15 v) L A B) := congrArg kt (mM_setF (k := 15) rfl)
theorem mM_i16 (kt : Int32 → gR) : gI (gfld (mM I L A B) 0 2 16) kt = kt (I 16) := rfl
theorem mM_pi16 (v : Int32) (kt : gM → gR) : gpf (mM I L A B) 0 2 16 (.int v) kt = kt (mM (va_up I 16 v) L A B) := congrArg kt (mM_setF (k := 16) rfl)
theorem mM_i17 (kt : Int32 → gR) : gI (gfld (mM I L A B) 0 2 17) kt = kt (I 17) := rfl
theorem mM_pi17 (v : Int32) (kt : gM → gR) : gpf (mM I L A B) 0 2 17 (.int v) kt = kt (mM (va_up I 17 v) L A B) := congrArg kt (mM_setF (k := 17) rfl)
theorem mM_i18 (kt : Int32 → gR) : gI (gfld (mM I L A B) 0 2 18) kt = kt (I 18) := rfl
theorem mM_pi18 (v : Int32) (kt : gM → gR) : gpf (mM I L A B) 0 2 18 (.int v) kt = kt (mM (va_up I 18 v) L A B) := congrArg kt (mM_setF (k := 18) rfl)
theorem mM_i21 (kt : Int32 → gR) : gI (gfld (mM I L A B) 0 2 21) kt = kt (I 21) := rfl
theorem mM_pi21 (v : Int32) (kt : gM → gR) : gpf (mM I L A B) 0 2 21 (.int v) kt = kt (mM (va_up I 21 v) L A B) := congrArg kt (mM_setF (k := 21) rfl)
theorem mM_i30 (kt : Int32 → gR) : gI (gfld (mM I L A B) 0 2 30) kt = kt (I 30) := rfl
theorem mM_pi30 (v : Int32) (kt : gM → gR) : gpf (mM I L A B) 0 2 30 (.int v) kt = kt (mM (va_up I 30 v) L A B) := congrArg kt (mM_setF (k := 30) rfl)
theorem mM_i31 (kt : Int32 → gR) : gI (gfld (mM I L A B) 0 2 31) kt = kt (I 31) := rfl
theorem mM_pi31 (v : Int32) (kt : gM → gR) : gpf (mM I L A B) 0 2 31 (.int v) kt = kt (mM (va_up I 31 v) L A B) := congrArg kt (mM_setF (k := 31) rfl)
theorem mM_i32 (kt : Int32 → gR) : gI (gfld (mM I L A B) 0 2 32) kt = kt (I 32) := rfl
theorem mM_pi32 (v : Int32) (kt : gM → gR) : gpf (mM I L A B) 0 2 32 (.int v) kt = kt (mM (va_up I 32 v) L A B) := congrArg kt (mM_setF (k := 32) rfl)
theorem mM_i33 (kt : Int32 → gR) : gI (gfld (mM I L A B) 0 2 33) kt = kt (I 33) := rfl
theorem mM_pi33 (v : Int32) (kt : gM → gR) : gpf (mM I L A B) 0 2 33 (.int v) kt = kt (mM (va_up I 33 v) L A B) := congrArg kt (mM_setF (k := 33) rfl)
theorem mM_l3 (kt : Int64 → gR) : gJ (gfld (mM I L A B) 0 2 3) kt = kt (L 3) := rfl
theorem mM_pl3 (v : Int64) (kt : gM → gR) : gpf (mM I L A B) 0 2 3 (.long v) kt = kt (mM I (va_up L 3 v) A B) := congrArg kt (mM_setF (k := 3) rfl)
theorem mM_l4 (kt : Int64 → gR) : gJ (gfld (mM I L A B) 0 2 4) kt = kt (L 4) := rfl
theorem mM_pl4 (v : Int64) (kt : gM → gR) : gpf (mM I L A B) 0 2 4 (.long v) kt = kt (mM I (va_up L 4 v) A B) := congrArg kt (mM_setF (k := 4) rfl)
theorem mM_l35 (kt : Int64 → gR) : gJ (gfld (mM I L A B) 0 2 35) kt = kt (L 35) := rfl
theorem mM_pl35 (v : Int64) (kt : gM → gR) : gpf (mM I L A B) 0 2 35 (.long v) kt = kt (mM I (va_up L 35 v) A B) := congrArg kt (mM_setF (k := 35) rfl)
theorem mM_r1 (kt : Nat → gR) : gP (gfld (mM I L A B) 0 2 1) kt = kt 1 := rfl
theorem mM_a1 {k : Nat} (h : k < 6) (kt : Int32 → gR) : gaI (mM I L A B) 0 1 (iN k) kt = kt (A 1 k) := mM_aI (c := 1) (by decide) (by decide) h (by decide) kt
theorem mM_s1 {k : Nat} (h : k < 6) (x : Int32) (kt : gM → gR) : gsI (mM I L A B) 0 1 (iN k) x kt = kt (mM I L (va_up A 1 (va_up (A 1) k x)) B) := (mM_sI (c := 1) (by decide) (by decide) h (by decide) x kt).trans (congrArg kt (mM_setA (c := 1) (by decide) (by decide) rfl _))
theorem mM_r5 (kt : Nat → gR) : gP (gfld (mM I L A B) 0 2 5) kt = kt 2 := rfl
theorem mM_a2 {k : Nat} (h : k < 6) (kt : Int32 → gR) : gaI (mM I L A B) 0 2 (iN k) kt = kt (A 2 k) := mM_aI (c := 2) (by decide) (by decide) h (by decide) kt
theorem mM_s2 {k : Nat} (h : k < 6) (x : Int32) (kt : gM → gR) : gsI (mM I L A B) 0 2 (iN k) x kt = kt (mM I L (va_up A 2 (va_up (A 2) k x)) B) := (mM_sI (c := 2) (by decide) (by decide) h (by decide) x kt).trans (congrArg kt (mM_setA (c := 2) (by decide) (by decide) rfl _))
theorem mM_r6 (kt : Nat → gR) : gP (gfld (mM I L A B) 0 2 6) kt = kt 3 := rfl
theorem mM_a3 {a b : Nat} (hb : b < 40) (h : 40 * a + b < 240) (kt : Int32 → gR) : gaI (mM I L A B) 0 3 (iN (40 * a + b)) kt = kt (B 3 a b) := (mM_aI (c := 3) (by decide) (by decide) h (by decide) kt).trans (congrArg kt (show B 3 ((40 * a + b) / 40) ((40 * a + b) % 40) = _ by rw [m_div hb, m_mod hb]))
theorem mM_s3 {a b : Nat} (hb : b < 40) (h : 40 * a + b < 240) (x : Int32) (kt : gM → gR) : gsI (mM I L A B) 0 3 (iN (40 * a + b)) x kt = kt (mM I L A (va_up B 3 (va_up (B 3) a (va_up (B 3 a) b x)))) := mM_sB (c := 3) (by decide) (by decide) hb h (by decide) x kt
theorem mM_r7 (kt : Nat → gR) : gP (gfld (mM I L A B) 0 2 7) kt = kt 4 := rfl
theorem mM_a4 {k : Nat} (h : k < 40) (kt : Int32 → gR) : gaI (mM I L A B) 0 4 (iN k) kt = kt (A 4 k) := mM_aI (c := 4) (by decide) (by decide) h (by decide) kt
theorem mM_s4 {k : Nat} (h : k < 40) (x : Int32) (kt : gM → gR) : gsI (mM I L A B) 0 4 (iN k) x kt = kt (mM I L (va_up A 4 (va_up (A 4) k x)) B) := (mM_sI (c := 4) (by decide) (by decide) h (by decide) x kt).trans (congrArg kt (mM_setA (c := 4) (by decide) (by decide) rfl _))
theorem mM_r8 (kt : Nat → gR) : gP (gfld (mM I L A B) 0 2 8) kt = kt 5 := rfl
theorem mM_a5 {k : Nat} (h : k < 4) (kt : Int32 → gR) : gaI (mM I L A B) 0 5 (iN k) kt = kt (A 5 k) := mM_aI (c := 5) (by decide) (by decide) h (by decide) kt
theorem mM_s5 {k : Nat} (h : k < 4) (x : Int32) (kt : gM → gR) : gsI (mM I L A B) 0 5 (iN k) x kt = kt (mM I L (va_up A 5 (va_up (A 5) k x)) B) := (mM_sI (c := 5) (by decide) (by decide) h (by decide) x kt).trans (congrArg kt (mM_setA (c := 5) (by decide) (by decide) rfl _))
theorem mM_r9 (kt : Nat → gR) : gP (gfld (mM I L A B) 0 2 9) kt = kt 6 := rfl
theorem mM_a6 {a b : Nat} (hb : b < 60) (h : 60 * a + b < 240) (kt : Int32 → gR) : gaI (mM I L A B) 1 6 (iN (60 * a + b)) kt = kt (B 6 a b) := (mM_aI (c := 6) (by decide) (by decide) h (by decide) kt).trans (congrArg kt (show B 6 ((60 * a + b) / 60) ((60 * a + b) % 60) = _ by rw [m_div hb, m_mod hb]))
theorem mM_s6 {a b : Nat} (hb : b < 60) (h : 60 * a + b < 240) (x : Int32) (kt : gM → gR) : gsI (mM I L A B) 1 6 (iN (60 * a + b)) x kt = kt (mM I L A (va_up B 6 (va_up (B 6) a (va_up (B 6 a) b x)))) := mM_sB (c := 6) (by decide) (by decide) hb h (by decide) x kt
theorem mM_r12 (kt : Nat → gR) : gP (gfld (mM I L A B) 0 2 12) kt = kt 7 := rfl
theorem mM_a7 {k : Nat} (h : k < 6) (kt : Int32 → gR) : gaI (mM I L A B) 0 7 (iN k) kt = kt (A 7 k) := mM_aI (c := 7) (by decide) (by decide) h (by decide) kt
theorem mM_s7 {k : Nat} (h : k < 6) (x : Int32) (kt : gM → gR) : gsI (mM I L A B) 0 7 (iN k) x kt = kt (mM I L (va_up A 7 (va_up (A 7) k x)) B) := (mM_sI (c := 7) (by decide) (by decide) h (by decide) x kt).trans (congrArg kt (mM_setA (c := 7) (by decide) (by decide) rfl _))
theorem mM_r13 (kt : Nat → gR) : gP (gfld (mM I L A B) 0 2 13) kt = kt 8 := rfl
theorem mM_a8 {k : Nat} (h : k < 6) (kt : Int32 → gR) : gaI (mM I L A B) 0 8 (iN k) kt = kt (A 8 k) := mM_aI (c := 8) (by decide) (by decide) h (by decide) kt
theorem mM_s8 {k : Nat} (h : k < 6) (x : Int32) (kt : gM → gR) : gsI (mM I L A B) 0 8 (iN k) x kt = kt (mM I L (va_up A 8 (va_up (A 8) k x)) B) := (mM_sI (c := 8) (by decide) (by decide) h (by decide) x kt).trans (congrArg kt (mM_setA (c := 8) (by decide) (by decide) rfl _))
theorem mM_r14 (kt : Nat → gR) : gP (gfld (mM I L A B) 0 2 14) kt = kt 9 := rfl
theorem mM_a9 {k : Nat} (h : k < 6) (kt : Int32 → gR) : gaI (mM I L A B) 0 9 (iN k) kt = kt (A 9 k) := mM_aI (c := 9) (by decide) (by decide) h (by decide) kt
theorem mM_s9 {k : Nat} (h : k < 6) (x : Int32) (kt : gM → gR) : gsI (mM I L A B) 0 9 (iN k) x kt = kt (mM I L (va_up A 9 (va_up (A 9) k x)) B) := (mM_sI (c := 9) (by decide) (by decide) h (by decide) x kt).trans (congrArg kt (mM_setA (c := 9) (by decide) (by decide) rfl _))
theorem mM_r19 (kt : Nat → gR) : gP (gfld (mM I L A B) 0 2 19) kt = kt 10 := rfl
theorem mM_a10 {a b : Nat} (hb : b < 4) (h : 4 * a + b < 24) (kt : Int32 → gR) : gaI (mM I L A B) 0 10 (iN (4 * a + b)) kt = kt (B 10 a b) := (mM_aI (c := 10) (by decide) (by decide) h (by decide) kt).trans (congrArg kt (show B 10 ((4 * a + b) / 4) ((4 * a + b) % 4) = _ by rw [m_div hb, m_mod hb]))
theorem mM_s10 {a b : Nat} (hb : b < 4) (h : 4 * a + b < 24) (x : Int32) (kt : gM → gR) : gsI (mM I L A B) 0 10 (iN (4 * a + b)) x kt = kt (mM I L A (va_up B 10 (va_up (B 10) a (va_up (B 10 a) b x)))) := mM_sB (c := 10) (by decide) (by decide) hb h (by decide) x kt
theorem mM_r20 (kt : Nat → gR) : gP (gfld (mM I L A B) 0 2 20) kt = kt 11 := rfl
theorem mM_a11 {a b : Nat} (hb : b < 9) (h : 9 * a + b < 135) (kt : Int32 → gR) : gaI (mM I L A B) 0 11 (iN (9 * a + b)) kt = kt (B 11 a b) := (mM_aI (c := 11) (by decide) (by decide) h (by decide) kt).trans (congrArg kt (show B 11 ((9 * a + b) / 9) ((9 * a + b) % 9) = _ by rw [m_div hb, m_mod hb]))
theorem mM_s11 {a b : Nat} (hb : b < 9) (h : 9 * a + b < 135) (x : Int32) (kt : gM → gR) : gsI (mM I L A B) 0 11 (iN (9 * a + b)) x kt = kt (mM I L A (va_up B 11 (va_up (B 11) a (va_up (B 11 a) b x)))) := mM_sB (c := 11) (by decide) (by decide) hb h (by decide) x kt
theorem mM_r22 (kt : Nat → gR) : gP (gfld (mM I L A B) 0 2 22) kt = kt 12 := rfl
theorem mM_a12 {k : Nat} (h : k < 540) (kt : Int32 → gR) : gaI (mM I L A B) 0 12 (iN k) kt = kt (A 12 k) := mM_aI (c := 12) (by decide) (by decide) h (by decide) kt
theorem mM_s12 {k : Nat} (h : k < 540) (x : Int32) (kt : gM → gR) : gsI (mM I L A B) 0 12 (iN k) x kt = kt (mM I L (va_up A 12 (va_up (A 12) k x)) B) := (mM_sI (c := 12) (by decide) (by decide) h (by decide) x kt).trans (congrArg kt (mM_setA (c := 12) (by decide) (by decide) rfl _))
theorem mM_r23 (kt : Nat → gR) : gP (gfld (mM I L A B) 0 2 23) kt = kt 13 := rfl
theorem mM_a13 {k : Nat} (h : k < 3) (kt : Int32 → gR) : gaI (mM I L A B) 2 13 (iN k) kt = kt (A 13 k) := mM_aI (c := 13) (by decide) (by decide) h (by decide) kt
theorem mM_s13 {k : Nat} (h : k < 3) (x : Int32) (kt : gM → gR) : gsI (mM I L A B) 2 13 (iN k) x kt = kt (mM I L (va_up A 13 (va_up (A 13) k x)) B) := (mM_sI (c := 13) (by decide) (by decide) h (by decide) x kt).trans (congrArg kt (mM_setA (c := 13) (by decide) (by decide) rfl _))
theorem mM_r24 (kt : Nat → gR) : gP (gfld (mM I L A B) 0 2 24) kt = kt 14 := rfl
theorem mM_a14 {k : Nat} (h : k < 3) (kt : Int32 → gR) : gaI (mM I L A B) 0 14 (iN k) kt = kt (A 14 k) := mM_aI (c := 14) (by decide) (by decide) h (by decide) kt
theorem mM_s14 {k : Nat} (h : k < 3) (x : Int32) (kt : gM → gR) : gsI (mM I L A B) 0 14 (iN k) x kt = kt (mM I L (va_up A 14 (va_up (A 14) k x)) B) := (mM_sI (c := 14) (by decide) (by decide) h (by decide) x kt).trans (congrArg kt (mM_setA (c := 14) (by decide) (by decide) rfl _))
theorem mM_r25 (kt : Nat → gR) : gP (gfld (mM I L A B) 0 2 25) kt = kt 15 := rfl
theorem mM_a15 {k : Nat} (h : k < 3) (kt : Int32 → gR) : gaI (mM I L A B) 0 15 (iN k) kt = kt (A 15 k) := mM_aI (c := 15) (by decide) (by decide) h (by decide) kt
theorem mM_s15 {k : Nat} (h : k < 3) (x : Int32) (kt : gM → gR) : gsI (mM I L A B) 0 15 (iN k) x kt = kt (mM I L (va_up A 15 (va_up (A 15) k x)) B) := (mM_sI (c := 15) (by decide) (by decide) h (by decide) x kt).trans (congrArg kt (mM_setA (c := 15) (by decide) (by decide) rfl _))
theorem mM_r26 (kt : Nat → gR) : gP (gfld (mM I L A B) 0 2 26) kt = kt 16 := rfl
theorem mM_a16 {a b : Nat} (hb : b < 9) (h : 9 * a + b < 27) (kt : Int32 → gR) : gaI (mM I L A B) 0 16 (iN (9 * a + b)) kt = kt (B 16 a b) := (mM_aI (c := 16) (by decide) (by decide) h (by decide) kt).trans (congrArg kt (show B 16 ((9 * a + b) / 9) ((9 * a + b) % 9) = _ by rw [m_div hb, m_mod hb]))
theorem mM_s16 {a b : Nat} (hb : b < 9) (h : 9 * a + b < 27) (x : Int32) (kt : gM → gR) : gsI (mM I L A B) 0 16 (iN (9 * a + b)) x kt = kt (mM I L A (va_up B 16 (va_up (B 16) a (va_up (B 16 a) b x)))) := mM_sB (c := 16) (by decide) (by decide) hb h (by decide) x kt
theorem mM_r27 (kt : Nat → gR) : gP (gfld (mM I L A B) 0 2 27) kt = kt 17 := rfl
theorem mM_a17 {a b : Nat} (hb : b < 540) (h : 540 * a + b < 1620) (kt : Int32 → gR) : gaI (mM I L A B) 0 17 (iN (540 * a + b)) kt = kt (B 17 a b) := (mM_aI (c := 17) (by decide) (by decide) h (by decide) kt).trans (congrArg kt (show B 17 ((540 * a + b) / 540) ((540 * a + b) % 540) = _ by rw [m_div hb, m_mod hb]))
theorem mM_s17 {a b : Nat} (hb : b < 540) (h : 540 * a + b < 1620) (x : Int32) (kt : gM → gR) : gsI (mM I L A B) 0 17 (iN (540 * a + b)) x kt = kt (mM I L A (va_up B 17 (va_up (B 17) a (va_up (B 17 a) b x)))) := mM_sB (c := 17) (by decide) (by decide) hb h (by decide) x kt
theorem mM_r28 (kt : Nat → gR) : gP (gfld (mM I L A B) 0 2 28) kt = kt 18 := rfl
theorem mM_a18 {k : Nat} (h : k < 12) (kt : Int32 → gR) : gaI (mM I L A B) 0 18 (iN k) kt = kt (A 18 k) := mM_aI (c := 18) (by decide) (by decide) h (by decide) kt
theorem mM_s18 {k : Nat} (h : k < 12) (x : Int32) (kt : gM → gR) : gsI (mM I L A B) 0 18 (iN k) x kt = kt (mM I L (va_up A 18 (va_up (A 18) k x)) B) := (mM_sI (c := 18) (by decide) (by decide) h (by decide) x kt).trans (congrArg kt (mM_setA (c := 18) (by decide) (by decide) rfl _))
theorem mM_r29 (kt : Nat → gR) : gP (gfld (mM I L A B) 0 2 29) kt = kt 19 := rfl
theorem mM_a19 {k : Nat} (h : k < 12) (kt : Int32 → gR) : gaI (mM I L A B) 0 19 (iN k) kt = kt (A 19 k) := mM_aI (c := 19) (by decide) (by decide) h (by decide) kt
theorem mM_s19 {k : Nat} (h : k < 12) (x : Int32) (kt : gM → gR) : gsI (mM I L A B) 0 19 (iN k) x kt = kt (mM I L (va_up A 19 (va_up (A 19) k x)) B) := (mM_sI (c := 19) (by decide) (by decide) h (by decide) x kt).trans (congrArg kt (mM_setA (c := 19) (by decide) (by decide) rfl _))
theorem mM_r34 (kt : Nat → gR) : gP (gfld (mM I L A B) 0 2 34) kt = kt 20 := rfl
theorem mM_a20 {a b : Nat} (hb : b < 6) (h : 6 * a + b < 7776) (kt : Int32 → gR) : gaI (mM I L A B) 0 20 (iN (6 * a + b)) kt = kt (B 20 a b) := (mM_aI (c := 20) (by decide) (by decide) h (by decide) kt).trans (congrArg kt (show B 20 ((6 * a + b) / 6) ((6 * a + b) % 6) = _ by rw [m_div hb, m_mod hb]))
theorem mM_s20 {a b : Nat} (hb : b < 6) (h : 6 * a + b < 7776) (x : Int32) (kt : gM → gR) : gsI (mM I L A B) 0 20 (iN (6 * a + b)) x kt = kt (mM I L A (va_up B 20 (va_up (B 20) a (va_up (B 20 a) b x)))) := mM_sB (c := 20) (by decide) (by decide) hb h (by decide) x kt
end MPIC
def xF (I : Nat → Int32) (L : Nat → Int64) (rd : Value) : List Value := [.int (I 0), .ref 1, .int (I 2), .long (L 3), .long (L 4), .ref 2, .ref 3, .int (I 7), .int (I 8), .ref 4, .ref 5, rd, .int (I 12), .int (I 13), .int (I 14), .ref 7, .ref 8, .ref 9, .ref 10, .int (I 19), .ref 11, .ref 12, .ref 13, .ref 15, .ref 17, .ref 18, .ref 33, .ref 34, .int (I 28), .int (I 29), .ref 35, .int (I 31), .int (I 32), .int (I 33), .long (L 34), .long (L 35)]
def xN (c : Nat) : Nat := match c with | 1 => 6 | 2 => 6 | 3 => 4 | 4 => 6 | 6 => 9 | 7 => 6 | 8 => 6 | 9 => 6 | 10 => 6 | 11 => 540 | 12 => 3 | 14 => 9 | 16 => 9 | 17 => 4 | 18 => 7 | 20 => 9 | 22 => 9 | 24 => 9 | 26 => 9 | 28 => 9 | 30 => 9 | 32 => 9 | 33 => 6 | 34 => 6 | 35 => 7776 | _ => 0
def xK (c : Nat) : Nat := match c with | 2 => 1 | 3 => 1 | 4 => 1 | 5 => 2 | 12 => 1 | 13 => 2 | 15 => 2 | 18 => 3 | 19 => 2 | 21 => 2 | 23 => 2 | 25 => 2 | 27 => 2 | 29 => 2 | 31 => 2 | _ => 0
def xT (c : Nat) : Nat := match c with | 2 => 3 | 3 => 4 | 4 => 5 | 12 => 6 | 18 => 7 | _ => 0
def xD : Nat → Option Nat := fun j => if j < 7 then some (19 + 2 * j) else none
def xC (A : Nat → Nat → Int32) (Q : Nat → Nat → Option Nat) (c : Nat) : gE := match xK c with
  | 0 => .inl (0, xN c, .inl (A c))
  | 1 => .inl (xT c, xN c, .inr (.inr (.inr (.inr (Q c)))))
  | 2 => .inr (1, [.ref (c + 1)])
  | _ => .inl (7, 7, .inr (.inr (.inr (.inr xD))))
/-- the memory of SandPiano: its fields I, L, rd; its arrays of ints A, of references Q, by their cells; W what was made later; nx the next number -/
def mX (nx : Nat) (I : Nat → Int32) (L : Nat → Int64) (rd : Value) (A : Nat → Nat → Int32) (Q : Nat → Nat → Option Nat) (W : Nat → Option gE) : gM := (nx, fun i => if 36 ≤ i then W i else if i = 0 then some (.inr (0, xF I L rd)) else some (xC A Q i))
/-- the cell of an object of Sands -/
def xS (s : Nat) : Bool := s == 5 || s == 13 || s == 15 || s == 19 || s == 21 || s == 23 || s == 25 || s == 27 || s == 29 || s == 31
theorem xS_k {s : Nat} (h : xS s = true) : (s ≠ 0 ∧ s + 1 < 36) ∧ xK s = 2 ∧ xK (s + 1) = 0 ∧ xN (s + 1) = 9 := by
  have h1 : s = 5 ∨ s = 13 ∨ s = 15 ∨ s = 19 ∨ s = 21 ∨ s = 23 ∨ s = 25 ∨ s = 27 ∨ s = 29 ∨ s = 31 := by
    simp only [xS, Bool.or_eq_true, beq_iff_eq] at h
    omega
  rcases h1 with rfl | rfl | rfl | rfl | rfl | rfl | rfl | rfl | rfl | rfl <;> exact ⟨⟨by decide, by decide⟩, rfl, rfl, rfl⟩
theorem xS_d {n : Nat} (h : n < 7) : xS (19 + 2 * n) = true := by
  have h1 : n = 0 ∨ n = 1 ∨ n = 2 ∨ n = 3 ∨ n = 4 ∨ n = 5 ∨ n = 6 := by omega
  rcases h1 with rfl | rfl | rfl | rfl | rfl | rfl | rfl <;> rfl
section XPIC
variable {nx : Nat} {I : Nat → Int32} {L : Nat → Int64} {rd : Value} {A : Nat → Nat → Int32} {Q : Nat → Nat → Option Nat} {W : Nat → Option gE}
theorem mX_c {c : Nat} (h0 : c ≠ 0) (h1 : c < 36) : (mX nx I L rd A Q W).2 c = some (xC A Q c) := by
  show (if 36 ≤ c then _ else if c = 0 then _ else _) = _
  rw [if_neg (by omega), if_neg h0]
theorem mX_w {c : Nat} (h1 : 36 ≤ c) : (mX nx I L rd A Q W).2 c = W c := if_pos h1
theorem mX_ar {c : Nat} (h0 : c ≠ 0) (h1 : c < 36) (hk : xK c = 0) : garI (mX nx I L rd A Q W) 0 c = some (xN c, A c) := by
  unfold garI
  rw [mX_c h0 h1]
  unfold xC
  rw [hk]
  rfl
theorem mX_aq {c : Nat} (h0 : c ≠ 0) (h1 : c < 36) (hk : xK c = 1) : garQ (mX nx I L rd A Q W) (xT c) c = some (xN c, Q c) := by
  unfold garQ
  rw [mX_c h0 h1]
  unfold xC
  rw [hk]
  exact if_pos rfl
theorem mX_setA {c : Nat} (h0 : c ≠ 0) (h1 : c < 36) (hk : xK c = 0) (g : Nat → Int32) : gset (mX nx I L rd A Q W) c (.inl (0, xN c, .inl g)) = mX nx I L rd (va_up A c g) Q W := by
  refine Prod.ext rfl ?_
  funext i
  show va_up _ c _ i = (if 36 ≤ i then _ else if i = 0 then _ else _)
  rw [va_upa]
  by_cases hi : i = c
  · subst hi
    rw [if_pos rfl, if_neg (by omega), if_neg h0]
    unfold xC
    rw [hk, va_ups]
    rfl
  · rw [if_neg hi]
    show (if 36 ≤ i then _ else if i = 0 then _ else _) = _
    have : xC (va_up A c g) Q i = xC A Q i := by
      unfold xC
      rw [va_upn hi]
    rw [this]
theorem mX_setQ {c : Nat} (h0 : c ≠ 0) (h1 : c < 36) (hk : xK c = 1) (g : Nat → Option Nat) : gset (mX nx I L rd A Q W) c (.inl (xT c, xN c, .inr (.inr (.inr (.inr g))))) = mX nx I L rd A (va_up Q c g) W := by
  refine Prod.ext rfl ?_
  funext i
  show va_up _ c _ i = (if 36 ≤ i then _ else if i = 0 then _ else _)
  rw [va_upa]
  by_cases hi : i = c
  · subst hi
    rw [if_pos rfl, if_neg (by omega), if_neg h0]
    unfold xC
    rw [hk, va_ups]
    rfl
  · rw [if_neg hi]
    show (if 36 ≤ i then _ else if i = 0 then _ else _) = _
    have : xC A (va_up Q c g) i = xC A Q i := by
      unfold xC
      rw [va_upn hi]
    rw [this]
theorem mX_setF {k : Nat} {v : Value} {I' : Nat → Int32} {L' : Nat → Int64} {rd' : Value} (h : (xF I L rd).set k v = xF I' L' rd') : gset (mX nx I L rd A Q W) 0 (.inr (0, (xF I L rd).set k v)) = mX nx I' L' rd' A Q W := by
  refine Prod.ext rfl ?_
  funext i
  show va_up _ 0 _ i = (if 36 ≤ i then _ else if i = 0 then _ else _)
  rw [va_upa, h]
  by_cases hi : i = 0
  · subst hi
    rfl
  · rw [if_neg hi]
    show (if 36 ≤ i then _ else if i = 0 then _ else _) = _
    rw [if_neg hi, if_neg hi]
theorem mX_setW {c : Nat} (h1 : 36 ≤ c) (e : gE) : gset (mX nx I L rd A Q W) c e = mX nx I L rd A Q (va_up W c (some e)) := by
  refine Prod.ext rfl ?_
  funext i
  show va_up _ c _ i = (if 36 ≤ i then _ else if i = 0 then _ else _)
  rw [va_upa]
  by_cases hi : i = c
  · subst hi
    rw [if_pos rfl, if_pos h1, va_ups]
  · rw [if_neg hi]
    show (if 36 ≤ i then _ else if i = 0 then _ else _) = _
    rw [va_upn hi]
theorem mX_new (h1 : 36 ≤ nx) (e : gE) : gnew (mX nx I L rd A Q W) e = mX (nx + 1) I L rd A Q (va_up W nx (some e)) := by
  refine Prod.ext rfl ?_
  show (gset (mX nx I L rd A Q W) nx e).2 = (mX nx I L rd A Q (va_up W nx (some e))).2
  rw [mX_setW h1]
theorem mX_aI {c k : Nat} (h0 : c ≠ 0) (h1 : c < 36) (hK : xK c = 0) (hk : k < xN c) (hs : xN c < 2147483648) (kt : Int32 → gR) : gaI (mX nx I L rd A Q W) 0 c (iN k) kt = kt (A c k) := by
  unfold gaI
  rw [mX_ar h0 h1 hK]
  show (if iN k < 0 ∨ xN c ≤ (iN k).toNatClampNeg then _ else _) = _
  rw [if_neg (by rw [iN_off (by omega)]; omega)]
  show kt (A c (iN k).toNatClampNeg) = _
  rw [iN_nat (by omega)]
theorem mX_sI {c k : Nat} (h0 : c ≠ 0) (h1 : c < 36) (hK : xK c = 0) (hk : k < xN c) (hs : xN c < 2147483648) (x : Int32) (kt : gM → gR) : gsI (mX nx I L rd A Q W) 0 c (iN k) x kt = kt (mX nx I L rd (va_up A c (va_up (A c) k x)) Q W) := by
  unfold gsI
  rw [mX_ar h0 h1 hK]
  show (if iN k < 0 ∨ xN c ≤ (iN k).toNatClampNeg then _ else _) = _
  rw [if_neg (by rw [iN_off (by omega)]; omega)]
  show kt (gset _ c (.inl (0, xN c, .inl (upd (A c) (iN k).toNatClampNeg x)))) = _
  rw [iN_nat (by omega), mX_setA h0 h1 hK]
  rfl
theorem mX_aQ {c k : Nat} (h0 : c ≠ 0) (h1 : c < 36) (hK : xK c = 1) (hk : k < xN c) (hs : xN c < 2147483648) (kt : Option Nat → gR) : gaQ (mX nx I L rd A Q W) (xT c) c (iN k) kt = kt (Q c k) := by
  unfold gaQ
  rw [mX_aq h0 h1 hK]
  show (if iN k < 0 ∨ xN c ≤ (iN k).toNatClampNeg then _ else _) = _
  rw [if_neg (by rw [iN_off (by omega)]; omega)]
  show kt (Q c (iN k).toNatClampNeg) = _
  rw [iN_nat (by omega)]
theorem mX_sQ {c k : Nat} (h0 : c ≠ 0) (h1 : c < 36) (hK : xK c = 1) (hk : k < xN c) (hs : xN c < 2147483648) (x : Option Nat) (kt : gM → gR) : gsQ (mX nx I L rd A Q W) (xT c) c (iN k) x kt = kt (mX nx I L rd A (va_up Q c (va_up (Q c) k x)) W) := by
  unfold gsQ
  rw [mX_aq h0 h1 hK]
  show (if iN k < 0 ∨ xN c ≤ (iN k).toNatClampNeg then _ else _) = _
  rw [if_neg (by rw [iN_off (by omega)]; omega)]
  show kt (gset _ c (.inl (xT c, xN c, .inr (.inr (.inr (.inr (va_up (Q c) (iN k).toNatClampNeg x))))))) = _
  rw [iN_nat (by omega), mX_setQ h0 h1 hK]
theorem mX_cp {c d sp dp n : Nat} (h0 : c ≠ 0) (h1 : c < 36) (hK : xK c = 0) (g0 : d ≠ 0) (g1 : d < 36) (gK : xK d = 0) (hc : sp + n ≤ xN c) (hd : dp + n ≤ xN d) (hsc : xN c < 2147483648) (hsd : xN d < 2147483648) (kt : gM → gR) : gcp (mX nx I L rd A Q W) c (iN sp) d (iN dp) (iN n) kt = kt (mX nx I L rd (va_up A d (va_cpy (A c) (A d) sp dp n)) Q W) := by
  unfold gcp
  rw [mX_ar h0 h1 hK, mX_ar g0 g1 gK]
  show (if iN sp < 0 ∨ iN dp < 0 ∨ iN n < 0 ∨ xN c < (iN sp).toNatClampNeg + (iN n).toNatClampNeg ∨ xN d < (iN dp).toNatClampNeg + (iN n).toNatClampNeg then _ else _) = _
  have q : ∀ j, j < 2147483648 → ¬ iN j < 0 := fun j hj h => by rw [show (0 : Int32) = iN 0 from rfl, iN_lt hj (by omega)] at h; omega
  rw [if_neg (by rw [iN_nat (by omega), iN_nat (by omega), iN_nat (by omega)]; intro h; rcases h with h | h | h | h | h; exact q _ (by omega) h; exact q _ (by omega) h; exact q _ (by omega) h; omega; omega)]
  show kt (gset _ d (.inl (0, xN d, .inl (va_cpy (A c) (A d) (iN sp).toNatClampNeg (iN dp).toNatClampNeg (iN n).toNatClampNeg)))) = _
  rw [iN_nat (by omega), iN_nat (by omega), iN_nat (by omega), mX_setA g0 g1 gK]
theorem mX_na {n lim : Nat} {t : Nat} (h1 : 36 ≤ nx) (hn : n ≤ lim) (hl : lim < 2147483648) (kt : gM → Nat → gR) : gna (mX nx I L rd A Q W) t lim (iN n) kt = kt (mX (nx + 1) I L rd A Q (va_up W nx (some (.inl (t, n, .inl (fun _ => 0)))))) nx := by
  unfold gna
  have q : ∀ j, j < 2147483648 → ¬ iN j < 0 := fun j hj h => by rw [show (0 : Int32) = iN 0 from rfl, iN_lt hj (by omega)] at h; omega
  rw [if_neg (by rw [iN_nat (by omega)]; intro h; rcases h with h | h; exact q _ (by omega) h; omega), iN_nat (by omega), mX_new h1]
  rfl
theorem mX_no (c : Nat) (fs : List Value) (h1 : 36 ≤ nx) (kt : gM → Nat → gR) : gno (mX nx I L rd A Q W) c fs kt = kt (mX (nx + 1) I L rd A Q (va_up W nx (some (.inr (c, fs))))) nx := by
  unfold gno
  rw [mX_new h1]
  rfl
theorem mX_sf {s : Nat} (h : xS s = true) (kt : Nat → gR) : gP (gfld (mX nx I L rd A Q W) s 1 0) kt = kt (s + 1) := by
  obtain ⟨⟨h0, h1⟩, h2, -⟩ := xS_k h
  unfold gfld
  rw [mX_c h0 (by omega)]
  unfold xC
  rw [h2]
  rfl
theorem mX_ss {s : Nat} (h : xS s = true) (kt : gR) : gis (mX nx I L rd A Q W) s 1 kt = kt := by
  obtain ⟨⟨h0, h1⟩, h2, -⟩ := xS_k h
  unfold gis
  rw [mX_c h0 (by omega)]
  unfold xC
  rw [h2]
  rfl
theorem mX_sa {s k : Nat} (h : xS s = true) (hk : k < 9) (kt : Int32 → gR) : gaI (mX nx I L rd A Q W) 0 (s + 1) (iN k) kt = kt (A (s + 1) k) := by
  obtain ⟨⟨h0, h1⟩, h2, h3, h4⟩ := xS_k h
  exact mX_aI (by omega) h1 h3 (by omega) (by omega) kt
theorem mX_st {s k : Nat} (h : xS s = true) (hk : k < 9) (x : Int32) (kt : gM → gR) : gsI (mX nx I L rd A Q W) 0 (s + 1) (iN k) x kt = kt (mX nx I L rd (va_up A (s + 1) (va_up (A (s + 1)) k x)) Q W) := by
  obtain ⟨⟨h0, h1⟩, h2, h3, h4⟩ := xS_k h
  exact mX_sI (by omega) h1 h3 (by omega) (by omega) x kt
theorem mX_dq {n : Nat} (h : n < 7) (kt : Option Nat → gR) : gaQ (mX nx I L rd A Q W) 7 18 (iN n) kt = kt (some (19 + 2 * n)) := by
  show (if iN n < 0 ∨ 7 ≤ (iN n).toNatClampNeg then none else kt (xD (iN n).toNatClampNeg)) = _
  rw [if_neg (by rw [iN_off (by omega)]; omega), iN_nat (by omega)]
  unfold xD
  rw [if_pos h]
theorem mX_tk {s t : Nat} (h : xS s = true) (g : xS t = true) (kt : gM → gR) : gcp (mX nx I L rd A Q W) (t + 1) (iN 0) (s + 1) (iN 0) (iN 9) kt = kt (mX nx I L rd (va_up A (s + 1) (va_cpy (A (t + 1)) (A (s + 1)) 0 0 9)) Q W) := by
  obtain ⟨⟨h0, h1⟩, h2, h3, h4⟩ := xS_k h
  obtain ⟨⟨g0, g1⟩, g2, g3, g4⟩ := xS_k g
  exact mX_cp (by omega) g1 g3 (by omega) h1 h3 (by omega) (by omega) (by omega) (by omega) kt

theorem mX_is (kt : gR) : gis (mX nx I L rd A Q W) 0 0 kt = kt := rfl
theorem mX_lv (kt : gR) : glv (mX nx I L rd A Q W) 0 kt = kt := rfl
theorem mX_i0 (kt : Int32 → gR) : gI (gfld (mX nx I L rd A Q W) 0 0 0) kt = kt (I 0) := rfl
theorem mX_pi0 (v : Int32) (kt : gM → gR) : gpf (mX nx I L rd A Q W) 0 0 0 (.int v) kt = kt (mX nx (va_up I 0 v) L rd A Q W) := congrArg kt (mX_setF (k := 0) rfl)
theorem mX_i2 (kt : Int32 → gR) : gI (gfld (mX nx I L rd A Q W) 0 0 2) kt = kt (I 2) := rfl
theorem mX_pi2 (v : Int32) (kt : gM → gR) : gpf (mX nx I L rd A Q W) 0 0 2 (.int v) kt = kt (mX nx (va_up I 2 v) L rd A Q W) := congrArg kt (mX_setF (k := 2) rfl)
theorem mX_i7 (kt : Int32 → gR) : gI (gfld (mX nx I L rd A Q W) 0 0 7) kt = kt (I 7) := rfl
theorem mX_pi7 (v : Int32) (kt : gM → gR) : gpf (mX nx I L rd A Q W) 0 0 7 (.int v) kt = kt (mX nx (va_up I 7 v) L rd A Q W) := congrArg kt (mX_setF (k := 7) rfl)
theorem mX_i8 (kt : Int32 → gR) : gI (gfld (mX nx I L rd A Q W) 0 0 8) kt = kt (I 8) := rfl
theorem mX_pi8 (v : Int32) (kt : gM → gR) : gpf (mX nx I L rd A Q W) 0 0 8 (.int v) kt = kt (mX nx (va_up I 8 v) L rd A Q W) := congrArg kt (mX_setF (k := 8) rfl)
theorem mX_i12 (kt : Int32 → gR) : gI (gfld (mX nx I L rd A Q W) 0 0 12) kt = kt (I 12) := rfl
theorem mX_pi12 (v : Int32) (kt : gM → gR) : gpf (mX nx I L rd A Q W) 0 0 12 (.int v) kt = kt (mX nx (va_up I 12 v) L rd A Q W) := congrArg kt (mX_setF (k := 12) rfl)
theorem mX_i13 (kt : Int32 → gR) : gI (gfld (mX nx I L rd A Q W) 0 0 13) kt = kt (I 13) := rfl
theorem mX_pi13 (v : Int32) (kt : gM → gR) : gpf (mX nx I L rd A Q W) 0 0 13 (.int v) kt = kt (mX nx (va_up I 13 v) L rd A Q W) := congrArg kt (mX_setF (k := 13) rfl)
theorem mX_i14 (kt : Int32 → gR) : gI (gfld (mX nx I L rd A Q W) 0 0 14) kt = kt (I 14) := rfl
theorem mX_pi14 (v : Int32) (kt : gM → gR) : gpf (mX nx I L rd A Q W) 0 0 14 (.int v) kt = kt (mX nx (va_up I 14 v) L rd A Q W) := congrArg kt (mX_setF (k := 14) rfl)
theorem mX_i19 (kt : Int32 → gR) : gI (gfld (mX nx I L rd A Q W) 0 0 19) kt = kt (I 19) := rfl
theorem mX_pi19 (v : Int32) (kt : gM → gR) : gpf (mX nx I L rd A Q W) 0 0 19 (.int v) kt = kt (mX nx (va_up I 19 v) L rd A Q W) := congrArg kt (mX_setF (k := 19) rfl)
theorem mX_i28 (kt : Int32 → gR) : gI (gfld (mX nx I L rd A Q W) 0 0 28) kt = kt (I 28) := rfl
theorem mX_pi28 (v : Int32) (kt : gM → gR) : gpf (mX nx I L rd A Q W) 0 0 28 (.int v) kt = kt (mX nx (va_up I 28 v) L rd A Q W) := congrArg kt (mX_setF (k := 28) rfl)
theorem mX_i29 (kt : Int32 → gR) : gI (gfld (mX nx I L rd A Q W) 0 0 29) kt = kt (I 29) := rfl
theorem mX_pi29 (v : Int32) (kt : gM → gR) : gpf (mX nx I L rd A Q W) 0 0 29 (.int v) kt = kt (mX nx (va_up I 29 v) L rd A Q W) := congrArg kt (mX_setF (k := 29) rfl)
theorem mX_i31 (kt : Int32 → gR) : gI (gfld (mX nx I L rd A Q W) 0 0 31) kt = kt (I 31) := rfl
theorem mX_pi31 (v : Int32) (kt : gM → gR) : gpf (mX nx I L rd A Q W) 0 0 31 (.int v) kt = kt (mX nx (va_up I 31 v) L rd A Q W) := congrArg kt (mX_setF (k := 31) rfl)
theorem mX_i32 (kt : Int32 → gR) : gI (gfld (mX nx I L rd A Q W) 0 0 32) kt = kt (I 32) := rfl
theorem mX_pi32 (v : Int32) (kt : gM → gR) : gpf (mX nx I L rd A Q W) 0 0 32 (.int v) kt = kt (mX nx (va_up I 32 v) L rd A Q W) := congrArg kt (mX_setF (k := 32) rfl)
theorem mX_i33 (kt : Int32 → gR) : gI (gfld (mX nx I L rd A Q W) 0 0 33) kt = kt (I 33) := rfl
theorem mX_pi33 (v : Int32) (kt : gM → gR) : gpf (mX nx I L rd A Q W) 0 0 33 (.int v) kt = kt (mX nx (va_up I 33 v) L rd A Q W) := congrArg kt (mX_setF (k := 33) rfl)
theorem mX_l3 (kt : Int64 → gR) : gJ (gfld (mX nx I L rd A Q W) 0 0 3) kt = kt (L 3) := rfl
theorem mX_pl3 (v : Int64) (kt : gM → gR) : gpf (mX nx I L rd A Q W) 0 0 3 (.long v) kt = kt (mX nx I (va_up L 3 v) rd A Q W) := congrArg kt (mX_setF (k := 3) rfl)
theorem mX_l4 (kt : Int64 → gR) : gJ (gfld (mX nx I L rd A Q W) 0 0 4) kt = kt (L 4) := rfl
theorem mX_pl4 (v : Int64) (kt : gM → gR) : gpf (mX nx I L rd A Q W) 0 0 4 (.long v) kt = kt (mX nx I (va_up L 4 v) rd A Q W) := congrArg kt (mX_setF (k := 4) rfl)
theorem mX_l34 (kt : Int64 → gR) : gJ (gfld (mX nx I L rd A Q W) 0 0 34) kt = kt (L 34) := rfl
theorem mX_pl34 (v : Int64) (kt : gM → gR) : gpf (mX nx I L rd A Q W) 0 0 34 (.long v) kt = kt (mX nx I (va_up L 34 v) rd A Q W) := congrArg kt (mX_setF (k := 34) rfl)
theorem mX_l35 (kt : Int64 → gR) : gJ (gfld (mX nx I L rd A Q W) 0 0 35) kt = kt (L 35) := rfl
theorem mX_pl35 (v : Int64) (kt : gM → gR) : gpf (mX nx I L rd A Q W) 0 0 35 (.long v) kt = kt (mX nx I (va_up L 35 v) rd A Q W) := congrArg kt (mX_setF (k := 35) rfl)
theorem mX_p11 (v : Value) (kt : gM → gR) : gpf (mX nx I L rd A Q W) 0 0 11 v kt = kt (mX nx I L v A Q W) := congrArg kt (mX_setF (k := 11) rfl)
theorem mX_r1 (kt : Nat → gR) : gP (gfld (mX nx I L rd A Q W) 0 0 1) kt = kt 1 := rfl
theorem mX_a1 {k : Nat} (h : k < 6) (kt : Int32 → gR) : gaI (mX nx I L rd A Q W) 0 1 (iN k) kt = kt (A 1 k) := mX_aI (c := 1) (by decide) (by decide) rfl h (by decide) kt
theorem mX_s1 {k : Nat} (h : k < 6) (x : Int32) (kt : gM → gR) : gsI (mX nx I L rd A Q W) 0 1 (iN k) x kt = kt (mX nx I L rd (va_up A 1 (va_up (A 1) k x)) Q W) := mX_sI (c := 1) (by decide) (by decide) rfl h (by decide) x kt
theorem mX_r5 (kt : Nat → gR) : gP (gfld (mX nx I L rd A Q W) 0 0 5) kt = kt 2 := rfl
theorem mX_q2 {k : Nat} (h : k < 6) (kt : Option Nat → gR) : gaQ (mX nx I L rd A Q W) 3 2 (iN k) kt = kt (Q 2 k) := mX_aQ (c := 2) (by decide) (by decide) rfl h (by decide) kt
theorem mX_sq2 {k : Nat} (h : k < 6) (x : Option Nat) (kt : gM → gR) : gsQ (mX nx I L rd A Q W) 3 2 (iN k) x kt = kt (mX nx I L rd A (va_up Q 2 (va_up (Q 2) k x)) W) := mX_sQ (c := 2) (by decide) (by decide) rfl h (by decide) x kt
theorem mX_r6 (kt : Nat → gR) : gP (gfld (mX nx I L rd A Q W) 0 0 6) kt = kt 3 := rfl
theorem mX_q3 {k : Nat} (h : k < 4) (kt : Option Nat → gR) : gaQ (mX nx I L rd A Q W) 4 3 (iN k) kt = kt (Q 3 k) := mX_aQ (c := 3) (by decide) (by decide) rfl h (by decide) kt
theorem mX_sq3 {k : Nat} (h : k < 4) (x : Option Nat) (kt : gM → gR) : gsQ (mX nx I L rd A Q W) 4 3 (iN k) x kt = kt (mX nx I L rd A (va_up Q 3 (va_up (Q 3) k x)) W) := mX_sQ (c := 3) (by decide) (by decide) rfl h (by decide) x kt
theorem mX_r9 (kt : Nat → gR) : gP (gfld (mX nx I L rd A Q W) 0 0 9) kt = kt 4 := rfl
theorem mX_q4 {k : Nat} (h : k < 6) (kt : Option Nat → gR) : gaQ (mX nx I L rd A Q W) 5 4 (iN k) kt = kt (Q 4 k) := mX_aQ (c := 4) (by decide) (by decide) rfl h (by decide) kt
theorem mX_sq4 {k : Nat} (h : k < 6) (x : Option Nat) (kt : gM → gR) : gsQ (mX nx I L rd A Q W) 5 4 (iN k) x kt = kt (mX nx I L rd A (va_up Q 4 (va_up (Q 4) k x)) W) := mX_sQ (c := 4) (by decide) (by decide) rfl h (by decide) x kt
theorem mX_r10 (kt : Nat → gR) : gP (gfld (mX nx I L rd A Q W) 0 0 10) kt = kt 5 := rfl
theorem mX_r15 (kt : Nat → gR) : gP (gfld (mX nx I L rd A Q W) 0 0 15) kt = kt 7 := rfl
theorem mX_a7 {k : Nat} (h : k < 6) (kt : Int32 → gR) : gaI (mX nx I L rd A Q W) 0 7 (iN k) kt = kt (A 7 k) := mX_aI (c := 7) (by decide) (by decide) rfl h (by decide) kt
theorem mX_s7 {k : Nat} (h : k < 6) (x : Int32) (kt : gM → gR) : gsI (mX nx I L rd A Q W) 0 7 (iN k) x kt = kt (mX nx I L rd (va_up A 7 (va_up (A 7) k x)) Q W) := mX_sI (c := 7) (by decide) (by decide) rfl h (by decide) x kt
theorem mX_r16 (kt : Nat → gR) : gP (gfld (mX nx I L rd A Q W) 0 0 16) kt = kt 8 := rfl
theorem mX_a8 {k : Nat} (h : k < 6) (kt : Int32 → gR) : gaI (mX nx I L rd A Q W) 0 8 (iN k) kt = kt (A 8 k) := mX_aI (c := 8) (by decide) (by decide) rfl h (by decide) kt
theorem mX_s8 {k : Nat} (h : k < 6) (x : Int32) (kt : gM → gR) : gsI (mX nx I L rd A Q W) 0 8 (iN k) x kt = kt (mX nx I L rd (va_up A 8 (va_up (A 8) k x)) Q W) := mX_sI (c := 8) (by decide) (by decide) rfl h (by decide) x kt
theorem mX_r17 (kt : Nat → gR) : gP (gfld (mX nx I L rd A Q W) 0 0 17) kt = kt 9 := rfl
theorem mX_a9 {k : Nat} (h : k < 6) (kt : Int32 → gR) : gaI (mX nx I L rd A Q W) 0 9 (iN k) kt = kt (A 9 k) := mX_aI (c := 9) (by decide) (by decide) rfl h (by decide) kt
theorem mX_s9 {k : Nat} (h : k < 6) (x : Int32) (kt : gM → gR) : gsI (mX nx I L rd A Q W) 0 9 (iN k) x kt = kt (mX nx I L rd (va_up A 9 (va_up (A 9) k x)) Q W) := mX_sI (c := 9) (by decide) (by decide) rfl h (by decide) x kt
theorem mX_r18 (kt : Nat → gR) : gP (gfld (mX nx I L rd A Q W) 0 0 18) kt = kt 10 := rfl
theorem mX_a10 {k : Nat} (h : k < 6) (kt : Int32 → gR) : gaI (mX nx I L rd A Q W) 0 10 (iN k) kt = kt (A 10 k) := mX_aI (c := 10) (by decide) (by decide) rfl h (by decide) kt
theorem mX_s10 {k : Nat} (h : k < 6) (x : Int32) (kt : gM → gR) : gsI (mX nx I L rd A Q W) 0 10 (iN k) x kt = kt (mX nx I L rd (va_up A 10 (va_up (A 10) k x)) Q W) := mX_sI (c := 10) (by decide) (by decide) rfl h (by decide) x kt
theorem mX_r20 (kt : Nat → gR) : gP (gfld (mX nx I L rd A Q W) 0 0 20) kt = kt 11 := rfl
theorem mX_a11 {k : Nat} (h : k < 540) (kt : Int32 → gR) : gaI (mX nx I L rd A Q W) 0 11 (iN k) kt = kt (A 11 k) := mX_aI (c := 11) (by decide) (by decide) rfl h (by decide) kt
theorem mX_s11 {k : Nat} (h : k < 540) (x : Int32) (kt : gM → gR) : gsI (mX nx I L rd A Q W) 0 11 (iN k) x kt = kt (mX nx I L rd (va_up A 11 (va_up (A 11) k x)) Q W) := mX_sI (c := 11) (by decide) (by decide) rfl h (by decide) x kt
theorem mX_r21 (kt : Nat → gR) : gP (gfld (mX nx I L rd A Q W) 0 0 21) kt = kt 12 := rfl
theorem mX_q12 {k : Nat} (h : k < 3) (kt : Option Nat → gR) : gaQ (mX nx I L rd A Q W) 6 12 (iN k) kt = kt (Q 12 k) := mX_aQ (c := 12) (by decide) (by decide) rfl h (by decide) kt
theorem mX_sq12 {k : Nat} (h : k < 3) (x : Option Nat) (kt : gM → gR) : gsQ (mX nx I L rd A Q W) 6 12 (iN k) x kt = kt (mX nx I L rd A (va_up Q 12 (va_up (Q 12) k x)) W) := mX_sQ (c := 12) (by decide) (by decide) rfl h (by decide) x kt
theorem mX_r22 (kt : Nat → gR) : gP (gfld (mX nx I L rd A Q W) 0 0 22) kt = kt 13 := rfl
theorem mX_r23 (kt : Nat → gR) : gP (gfld (mX nx I L rd A Q W) 0 0 23) kt = kt 15 := rfl
theorem mX_r24 (kt : Nat → gR) : gP (gfld (mX nx I L rd A Q W) 0 0 24) kt = kt 17 := rfl
theorem mX_a17 {k : Nat} (h : k < 4) (kt : Int32 → gR) : gaI (mX nx I L rd A Q W) 0 17 (iN k) kt = kt (A 17 k) := mX_aI (c := 17) (by decide) (by decide) rfl h (by decide) kt
theorem mX_s17 {k : Nat} (h : k < 4) (x : Int32) (kt : gM → gR) : gsI (mX nx I L rd A Q W) 0 17 (iN k) x kt = kt (mX nx I L rd (va_up A 17 (va_up (A 17) k x)) Q W) := mX_sI (c := 17) (by decide) (by decide) rfl h (by decide) x kt
theorem mX_r25 (kt : Nat → gR) : gP (gfld (mX nx I L rd A Q W) 0 0 25) kt = kt 18 := rfl
theorem mX_r26 (kt : Nat → gR) : gP (gfld (mX nx I L rd A Q W) 0 0 26) kt = kt 33 := rfl
theorem mX_a33 {k : Nat} (h : k < 6) (kt : Int32 → gR) : gaI (mX nx I L rd A Q W) 0 33 (iN k) kt = kt (A 33 k) := mX_aI (c := 33) (by decide) (by decide) rfl h (by decide) kt
theorem mX_s33 {k : Nat} (h : k < 6) (x : Int32) (kt : gM → gR) : gsI (mX nx I L rd A Q W) 0 33 (iN k) x kt = kt (mX nx I L rd (va_up A 33 (va_up (A 33) k x)) Q W) := mX_sI (c := 33) (by decide) (by decide) rfl h (by decide) x kt
theorem mX_r27 (kt : Nat → gR) : gP (gfld (mX nx I L rd A Q W) 0 0 27) kt = kt 34 := rfl
theorem mX_a34 {k : Nat} (h : k < 6) (kt : Int32 → gR) : gaI (mX nx I L rd A Q W) 0 34 (iN k) kt = kt (A 34 k) := mX_aI (c := 34) (by decide) (by decide) rfl h (by decide) kt
theorem mX_s34 {k : Nat} (h : k < 6) (x : Int32) (kt : gM → gR) : gsI (mX nx I L rd A Q W) 0 34 (iN k) x kt = kt (mX nx I L rd (va_up A 34 (va_up (A 34) k x)) Q W) := mX_sI (c := 34) (by decide) (by decide) rfl h (by decide) x kt
theorem mX_r30 (kt : Nat → gR) : gP (gfld (mX nx I L rd A Q W) 0 0 30) kt = kt 35 := rfl
theorem mX_a35 {k : Nat} (h : k < 7776) (kt : Int32 → gR) : gaI (mX nx I L rd A Q W) 0 35 (iN k) kt = kt (A 35 k) := mX_aI (c := 35) (by decide) (by decide) rfl h (by decide) kt
theorem mX_s35 {k : Nat} (h : k < 7776) (x : Int32) (kt : gM → gR) : gsI (mX nx I L rd A Q W) 0 35 (iN k) x kt = kt (mX nx I L rd (va_up A 35 (va_up (A 35) k x)) Q W) := mX_sI (c := 35) (by decide) (by decide) rfl h (by decide) x kt
end XPIC
