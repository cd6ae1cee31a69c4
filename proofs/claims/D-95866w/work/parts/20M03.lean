set_option maxRecDepth 100000
/-! X2_betFrom -/
def fX2_betFrom_L38 (rec : gM → Nat → Int32 → Int32 → Int32 → Int64 → gR) (b0 : Nat) (a1 : Int32) (a2 : Int32) (a3 : Int32) (a4 : Int64) (x1 : Int32) : Nat → Int64 → Int32 → gM → gR
  | 0, _, _, _ => none
  | n10 + 1, x7, x8, μ9 => gI (gfld μ9 b0 2 11) fun x11 => if x11 ≤ x8 then (some (some (.long x7), μ9)) else (cI (fX2_has μ9 x1 x8) fun x12 μ13 => gjn (fun (x14 : Int64) (μ15 : gM) => gnm (x8 + 1) fun x17 => fX2_betFrom_L38 rec b0 a1 a2 a3 a4 x1 n10 x14 x17 μ15) fun j16 => if x12 = 0 then (j16 x7 μ13) else (gis μ13 b0 2 <| cV (fX2_copyTo μ13 b0 a1 (a1 + 1)) fun μ18 => gis μ18 b0 2 <| cV (fX2_plays μ18 b0 (a1 + 1) x8) fun μ19 => cI (fX2_bits μ19 x1) fun x20 μ21 => gne ((x20 : Int32).toInt64) 0 <| gis μ21 b0 2 <| cJ (rec μ21 b0 (a1 + 1) (a2 - 1) a3 (a4 / ((x20 : Int32).toInt64))) fun x22 μ23 => gnm ((x7 + x22)) fun x24 => j16 x24 μ23))
set_option maxHeartbeats 4000000 in
theorem wX2_betFrom_L38 {p : Program} {e : Env} {s : State} {m : MethodId} {args : Array Value} {below : List Frame} {meth : Method} {c : Code} {Γ : gG} {A : Nat → Prop} {nz : Nat} {ad : Nat → Nat} {r : Option Value × gM} (l : Launch) (dd : Nat) (rec : gM → Nat → Int32 → Int32 → Int32 → Int64 → gR) (b0 : Nat) (a1 : Int32) (a2 : Int32) (a3 : Int32) (a4 : Int64) (x1 : Int32) (X : gX p m c cX2_betFrom 10 s args "SandPianoModel" Γ A) (hr : meth.sig.returnType = (some .long)) (hlk : meth.locks = false) (hrec : ∀ (ad : Nat → Nat) (μ : gM) (b0 : Nat) (a1 : Int32) (a2 : Int32) (a3 : Int32) (a4 : Int64) (r : Option Value × gM), rec μ b0 a1 a2 a3 a4 = some r → gMt0 l Γ yX2_betFrom (ws_ yX2_betFrom cX2_betFrom 10 (some .long)) ({ frames := 3 + dd, cells := 0, slots := 0, locals := 70 + dd * 29 } : Room) 0 0 ad μ [.ref (ad b0), .int a1, .int a2, .int a3, .long a4] r) : ∀ (n10 : Nat) (x7 : Int64) (x8 : Int32) (μ9 : gM) (H : Heap) (locs : List Loc) (ls : Array Slot), fX2_betFrom_L38 rec b0 a1 a2 a3 a4 x1 n10 x7 x8 μ9 = some r → gWd Γ A nz ad μ9 s.heap H locs → lv_has ls 10 [(0, .ref (ad b0)), (1, .int a1), (2, .int a2), (3, .int a3), (4, .long a4), (6, .int x1), (7, .long x7), (9, .int x8)] → W p l e ({ frames := 3 + (dd + 1), cells := 0, slots := 0, locals := 70 + (dd + 1) * 29 } : Room) s m args below meth c H locs 0 0 (MQ below (gQ0 Γ ad nz r A) args s 0 0 A) (F0 m 38 ls []) := by
  intro n10
  induction n10 with
  | zero =>
    intro x7 x8 μ9 H locs ls hf h hl
    have hf : (none : gR) = some r := hf
    cases hf
  | succ n10 ih =>
    intro x7 x8 μ9 H locs ls hf h hl
    rw [fX2_betFrom_L38] at hf
    refine lv_iload X.hx X.hb dX2_betFrom_38 (lv_at hl 7 rfl) ?_
    refine lv_aload_n X.hx X.hb dX2_betFrom_40 rfl (lv_at hl 0 rfl) ?_
    refine r_getI X h (ci := 2) (k := 11) (C := RX2) (T := TX2) (N := 36) rfl in_X2 (by decide) q1070 rfl dX2_betFrom_41 hf (fun x11 hf => ?_)
    refine lv_icmp_ge (tgt := 105) X.hx X.hb dX2_betFrom_44 (by decide) (fun hc => ?_) (fun hc => ?_)
    · replace hf := gif_t hf hc
      clear hc
      refine lv_lload X.hx X.hb dX2_betFrom_105 (lv_at hl 6 rfl) ?_
      exact r_rl X h hr hlk ((by first | exact Nat.le_of_ble_eq_true rfl | omega | (dsimp only; omega))) ((by first | exact Nat.le_of_ble_eq_true rfl | omega | (dsimp only; omega))) dX2_betFrom_107 hf
    · replace hf := gif_f hf hc
      clear hc
      refine lv_iload X.hx X.hb dX2_betFrom_47 (lv_at hl 5 rfl) ?_
      refine lv_iload X.hx X.hb dX2_betFrom_49 (lv_at hl 7 rfl) ?_
      refine r_cSI (As := [.int x1, .int x8]) (rest := []) X h hf (fun res hres => wX2_has l Γ ad _ x1 x8 res hres) (va_cwS 2 X.hts (lw_S q1442 q1443 q84 q1444) rfl rfl rfl (by decide +kernel) ⟨(by first | exact Nat.le_of_ble_eq_true rfl | omega | (dsimp only; omega)), (by first | exact Nat.le_of_ble_eq_true rfl | omega | (dsimp only; omega))⟩) rfl ⟨hl.1, Nat.le_of_ble_eq_true rfl, (by first | exact Nat.le_of_ble_eq_true rfl | omega | (dsimp only; omega)), (by first | exact Nat.le_of_ble_eq_true rfl | omega | (dsimp only; omega))⟩ rfl dX2_betFrom_51 (fun x12 μ13 H locs hf h => ?_)
      refine r_jn hf (fun j16 ej16 hf => ?_)
      have hj16 : ∀ (x14 : Int64) (μ15 : gM) (H : Heap) (locs : List Loc) (ls : Array Slot), j16 x14 μ15 = some r → gWd Γ A nz ad μ15 s.heap H locs → lv_has ls 10 [(0, .ref (ad b0)), (1, .int a1), (2, .int a2), (3, .int a3), (4, .long a4), (6, .int x1), (7, .long x14), (9, .int x8)] → W p l e ({ frames := 3 + (dd + 1), cells := 0, slots := 0, locals := 70 + (dd + 1) * 29 } : Room) s m args below meth c H locs 0 0 (MQ below (gQ0 Γ ad nz r A) args s 0 0 A) (F0 m 99 ls []) := by
        intro x14 μ15 H locs ls hf h hl
        rw [ej16] at hf
        refine r_nmk hf (fun x17 ex hf => ?_)
        refine lv_iinc (v := x17) (lv' := [(9, .int x17), (0, .ref (ad b0)), (1, .int a1), (2, .int a2), (3, .int a3), (4, .long a4), (6, .int x1), (7, .long x14)]) X.hx X.hb dX2_betFrom_99 hl (k := 7) rfl (by rw [ex]; rfl) (by decide) rfl (fun ls hl => ?_)
        clear ex
        refine lv_goto (tgt := 38) X.hx X.hb dX2_betFrom_102 (by decide) ?_
        exact ih _ _ _ _ _ _ hf h (lv_sub hl [1, 2, 3, 4, 5, 6, 7, 0] rfl)
      clear ej16
      refine lv_if_eq (tgt := 99) X.hx X.hb dX2_betFrom_54 (by decide) (fun hc => ?_) (fun hc => ?_)
      · replace hf := gif_t hf hc
        clear hc
        exact hj16 _ _ _ _ _ hf h (lv_sub hl [0, 1, 2, 3, 4, 5, 6, 7] rfl)
      · replace hf := gif_f hf hc
        clear hc
        refine lv_aload_n X.hx X.hb dX2_betFrom_57 rfl (lv_at hl 0 rfl) ?_
        refine lv_iload_n X.hx X.hb dX2_betFrom_58 rfl (lv_at hl 1 rfl) ?_
        refine lv_iload_n X.hx X.hb dX2_betFrom_59 rfl (lv_at hl 1 rfl) ?_
        refine lv_iconst (v := 1) X.hx X.hb dX2_betFrom_60 (by decide) ?_
        refine lv_iadd X.hx X.hb dX2_betFrom_61 ?_
        refine r_cVV (As := [.int a1, .int (a1 + 1)]) (rest := []) (C := RX2) (T := TX2) (N := 36) X h hf (fun res hres => wX2_copyTo l Γ ad _ b0 a1 (a1 + 1) res hres) rfl (cwV 2 X.hts (lw_V q1398 q1400 qs63 q84 q1401) rfl rfl rfl (by decide +kernel) ⟨(by first | exact Nat.le_of_ble_eq_true rfl | omega | (dsimp only; omega)), (by first | exact Nat.le_of_ble_eq_true rfl | omega | (dsimp only; omega))⟩) rfl ⟨hl.1, Nat.le_of_ble_eq_true rfl, (by first | exact Nat.le_of_ble_eq_true rfl | omega | (dsimp only; omega)), (by first | exact Nat.le_of_ble_eq_true rfl | omega | (dsimp only; omega))⟩ rfl dX2_betFrom_62 (fun μ18 H locs hf h => ?_)
        refine lv_aload_n X.hx X.hb dX2_betFrom_65 rfl (lv_at hl 0 rfl) ?_
        refine lv_iload_n X.hx X.hb dX2_betFrom_66 rfl (lv_at hl 1 rfl) ?_
        refine lv_iconst (v := 1) X.hx X.hb dX2_betFrom_67 (by decide) ?_
        refine lv_iadd X.hx X.hb dX2_betFrom_68 ?_
        refine lv_iload X.hx X.hb dX2_betFrom_69 (lv_at hl 7 rfl) ?_
        refine r_cVV (As := [.int (a1 + 1), .int x8]) (rest := []) (C := RX2) (T := TX2) (N := 36) X h hf (fun res hres => wX2_plays l Γ ad _ b0 (a1 + 1) x8 res hres) rfl (cwV 2 X.hts (lw_V q1330 q1332 qs54 q84 q1333) rfl rfl rfl (by decide +kernel) ⟨(by first | exact Nat.le_of_ble_eq_true rfl | omega | (dsimp only; omega)), (by first | exact Nat.le_of_ble_eq_true rfl | omega | (dsimp only; omega))⟩) rfl ⟨hl.1, Nat.le_of_ble_eq_true rfl, (by first | exact Nat.le_of_ble_eq_true rfl | omega | (dsimp only; omega)), (by first | exact Nat.le_of_ble_eq_true rfl | omega | (dsimp only; omega))⟩ rfl dX2_betFrom_71 (fun μ19 H locs hf h => ?_)
        refine lv_lload X.hx X.hb dX2_betFrom_74 (lv_at hl 6 rfl) ?_
        refine lv_aload_n X.hx X.hb dX2_betFrom_76 rfl (lv_at hl 0 rfl) ?_
        refine lv_iload_n X.hx X.hb dX2_betFrom_77 rfl (lv_at hl 1 rfl) ?_
        refine lv_iconst (v := 1) X.hx X.hb dX2_betFrom_78 (by decide) ?_
        refine lv_iadd X.hx X.hb dX2_betFrom_79 ?_
        refine lv_iload_n X.hx X.hb dX2_betFrom_80 rfl (lv_at hl 2 rfl) ?_
        refine lv_iconst (v := 1) X.hx X.hb dX2_betFrom_81 (by decide) ?_
        refine lv_isub X.hx X.hb dX2_betFrom_82 ?_
        refine lv_iload_n X.hx X.hb dX2_betFrom_83 rfl (lv_at hl 3 rfl) ?_
        refine lv_lload X.hx X.hb dX2_betFrom_84 (lv_at hl 4 rfl) ?_
        refine lv_iload X.hx X.hb dX2_betFrom_86 (lv_at hl 5 rfl) ?_
        refine r_cSI (As := [.int x1]) (rest := [.long a4, .int a3, .int (a2 - 1), .int (a1 + 1), .ref (ad b0), .long x7]) X h hf (fun res hres => wX2_bits l Γ ad _ x1 res hres) (va_cwS 1 X.hts (lw_S q1315 q1316 q84 q1317) rfl rfl rfl (by decide +kernel) ⟨(by first | exact Nat.le_of_ble_eq_true rfl | omega | (dsimp only; omega)), (by first | exact Nat.le_of_ble_eq_true rfl | omega | (dsimp only; omega))⟩) rfl ⟨hl.1, Nat.le_of_ble_eq_true rfl, (by first | exact Nat.le_of_ble_eq_true rfl | omega | (dsimp only; omega)), (by first | exact Nat.le_of_ble_eq_true rfl | omega | (dsimp only; omega))⟩ rfl dX2_betFrom_88 (fun x20 μ21 H locs hf h => ?_)
        refine lv_i2l X.hx X.hb dX2_betFrom_91 rfl ?_
        obtain ⟨hne, hf⟩ := gne_some hf
        refine lv_ldiv X.hx X.hb dX2_betFrom_92 hne ?_
        refine r_cVJ (As := [.int (a1 + 1), .int (a2 - 1), .int a3, .long (a4 / ((x20 : Int32).toInt64))]) (rest := [.long x7]) (C := RX2) (T := TX2) (N := 36) X h hf (fun res hres => hrec ad _ b0 (a1 + 1) (a2 - 1) a3 (a4 / ((x20 : Int32).toInt64)) res hres) rfl (cwV 4 X.hts (lw_V q1509 q1511 qs77 q84 q1512) rfl rfl rfl (by decide +kernel) ⟨(by first | exact Nat.le_of_ble_eq_true rfl | omega | (dsimp only; omega)), (by first | exact Nat.le_of_ble_eq_true rfl | omega | (dsimp only; omega))⟩) rfl ⟨hl.1, Nat.le_of_ble_eq_true rfl, (by first | exact Nat.le_of_ble_eq_true rfl | omega | (dsimp only; omega)), (by first | exact Nat.le_of_ble_eq_true rfl | omega | (dsimp only; omega))⟩ rfl dX2_betFrom_93 (fun x22 μ23 H locs hf h => ?_)
        refine lv_ladd X.hx X.hb dX2_betFrom_96 ?_
        refine r_nmJ hf (fun x24 hf => ?_)
        refine lv_lstore (lv' := [(7, .long x24), (0, .ref (ad b0)), (1, .int a1), (2, .int a2), (3, .int a3), (4, .long a4), (6, .int x1), (9, .int x8)]) X.hx X.hb dX2_betFrom_97 hl (by decide) rfl (fun ls hl => ?_)
        exact hj16 _ _ _ _ _ hf h (lv_sub hl [1, 2, 3, 4, 5, 6, 0, 7] rfl)
def fX2_betFrom_B (rec : gM → Nat → Int32 → Int32 → Int32 → Int64 → gR) (μ0 : gM) (b0 : Nat) (a1 : Int32) (a2 : Int32) (a3 : Int32) (a4 : Int64) : gR := gis μ0 b0 2 <| cI (fX2_canSet μ0 b0 a1) fun x1 μ2 => gjn (fun  (μ3 : gM) => cI (fX2_has μ3 x1 a3) fun x5 μ6 => if x5 = 0 then (some (some (.long 0), μ6)) else (some (some (.long a4), μ6))) fun j4 => if a2 = 0 then (j4 μ2) else (if x1 = 0 then (j4 μ2) else (fX2_betFrom_L38 rec b0 a1 a2 a3 a4 x1 10000 0 0 μ2))
set_option maxHeartbeats 4000000 in
theorem wX2_betFrom_B (l : Launch) (Γ : gG) (dd : Nat) (rec : gM → Nat → Int32 → Int32 → Int32 → Int64 → gR) (hrec : ∀ (ad : Nat → Nat) (μ : gM) (b0 : Nat) (a1 : Int32) (a2 : Int32) (a3 : Int32) (a4 : Int64) (r : Option Value × gM), rec μ b0 a1 a2 a3 a4 = some r → gMt0 l Γ yX2_betFrom (ws_ yX2_betFrom cX2_betFrom 10 (some .long)) ({ frames := 3 + dd, cells := 0, slots := 0, locals := 70 + dd * 29 } : Room) 0 0 ad μ [.ref (ad b0), .int a1, .int a2, .int a3, .long a4] r) (ad : Nat → Nat) (μ0 : gM) (b0 : Nat) (a1 : Int32) (a2 : Int32) (a3 : Int32) (a4 : Int64) (r : Option Value × gM) (hf : fX2_betFrom_B rec μ0 b0 a1 a2 a3 a4 = some r) : gMt0 l Γ yX2_betFrom (ws_ yX2_betFrom cX2_betFrom 10 (some .long)) ({ frames := 3 + (dd + 1), cells := 0, slots := 0, locals := 70 + (dd + 1) * 29 } : Room) 0 0 ad μ0 [.ref (ad b0), .int a1, .int a2, .int a3, .long a4] r := by
  intro sz
  refine g_start (maxL := 10) (ret := (some .long)) (by decide) rfl g_all (Nat.le_of_ble_eq_true rfl) ?_
  intro p e s m below meth c ls hr hlk hnm X h hl
  generalize gA ad μ0 sz = A at X h ⊢
  generalize ([.ref (ad b0), .int a1, .int a2, .int a3, .long a4] : List Value).toArray = args at X ⊢
  have X : gX p m c cX2_betFrom 10 s args "SandPianoModel" Γ A := X
  have hl : lv_has ls 10 [(0, .ref (ad b0)), (1, .int a1), (2, .int a2), (3, .int a3), (4, .long a4)] := hl
  show W p l e ({ frames := 3 + (dd + 1), cells := 0, slots := 0, locals := 70 + (dd + 1) * 29 } : Room) s m args below meth c s.heap [] 0 0 (MQ below (gQ0 Γ ad μ0.1 r A) args s 0 0 A) (F0 m 0 ls [])
  unfold fX2_betFrom_B at hf
  refine lv_aload_n X.hx X.hb dX2_betFrom_0 rfl (lv_at hl 0 rfl) ?_
  refine lv_iload_n X.hx X.hb dX2_betFrom_1 rfl (lv_at hl 1 rfl) ?_
  refine r_cVI (As := [.int a1]) (rest := []) (C := RX2) (T := TX2) (N := 36) X h hf (fun res hres => wX2_canSet l Γ ad _ b0 a1 res hres) rfl (cwV 1 X.hts (lw_V q1311 q1313 qs52 q84 q1314) rfl rfl rfl (by decide +kernel) ⟨(by first | exact Nat.le_of_ble_eq_true rfl | omega | (dsimp only; omega)), (by first | exact Nat.le_of_ble_eq_true rfl | omega | (dsimp only; omega))⟩) rfl ⟨hl.1, Nat.le_of_ble_eq_true rfl, (by first | exact Nat.le_of_ble_eq_true rfl | omega | (dsimp only; omega)), (by first | exact Nat.le_of_ble_eq_true rfl | omega | (dsimp only; omega))⟩ rfl dX2_betFrom_2 (fun x1 μ2 H locs hf h => ?_)
  refine lv_istore (lv' := [(6, .int x1), (0, .ref (ad b0)), (1, .int a1), (2, .int a2), (3, .int a3), (4, .long a4)]) X.hx X.hb dX2_betFrom_5 hl (by decide) rfl (fun ls hl => ?_)
  refine lv_iload_n X.hx X.hb dX2_betFrom_7 rfl (lv_at hl 3 rfl) ?_
  refine r_jn hf (fun j4 ej4 hf => ?_)
  have hj4 : ∀  (μ3 : gM) (H : Heap) (locs : List Loc) (ls : Array Slot), j4  μ3 = some r → gWd Γ A μ0.1 ad μ3 s.heap H locs → lv_has ls 10 [(3, .int a3), (4, .long a4), (6, .int x1)] → W p l e ({ frames := 3 + (dd + 1), cells := 0, slots := 0, locals := 70 + (dd + 1) * 29 } : Room) s m args below meth c H locs 0 0 (MQ below (gQ0 Γ ad μ0.1 r A) args s 0 0 A) (F0 m 16 ls []) := by
    intro μ3 H locs ls hf h hl
    rw [ej4] at hf
    refine lv_iload X.hx X.hb dX2_betFrom_16 (lv_at hl 2 rfl) ?_
    refine lv_iload_n X.hx X.hb dX2_betFrom_18 rfl (lv_at hl 0 rfl) ?_
    refine r_cSI (As := [.int x1, .int a3]) (rest := []) X h hf (fun res hres => wX2_has l Γ ad _ x1 a3 res hres) (va_cwS 2 X.hts (lw_S q1442 q1443 q84 q1444) rfl rfl rfl (by decide +kernel) ⟨(by first | exact Nat.le_of_ble_eq_true rfl | omega | (dsimp only; omega)), (by first | exact Nat.le_of_ble_eq_true rfl | omega | (dsimp only; omega))⟩) rfl ⟨hl.1, Nat.le_of_ble_eq_true rfl, (by first | exact Nat.le_of_ble_eq_true rfl | omega | (dsimp only; omega)), (by first | exact Nat.le_of_ble_eq_true rfl | omega | (dsimp only; omega))⟩ rfl dX2_betFrom_19 (fun x5 μ6 H locs hf h => ?_)
    refine lv_if_eq (tgt := 30) X.hx X.hb dX2_betFrom_22 (by decide) (fun hc => ?_) (fun hc => ?_)
    · replace hf := gif_t hf hc
      clear hc
      refine lv_lconst (v := 0) X.hx X.hb dX2_betFrom_30 (by decide) ?_
      exact r_rl X h hr hlk ((by first | exact Nat.le_of_ble_eq_true rfl | omega | (dsimp only; omega))) ((by first | exact Nat.le_of_ble_eq_true rfl | omega | (dsimp only; omega))) dX2_betFrom_31 hf
    · replace hf := gif_f hf hc
      clear hc
      refine lv_lload X.hx X.hb dX2_betFrom_25 (lv_at hl 1 rfl) ?_
      refine lv_goto (tgt := 31) X.hx X.hb dX2_betFrom_27 (by decide) ?_
      exact r_rl X h hr hlk ((by first | exact Nat.le_of_ble_eq_true rfl | omega | (dsimp only; omega))) ((by first | exact Nat.le_of_ble_eq_true rfl | omega | (dsimp only; omega))) dX2_betFrom_31 hf
  clear ej4
  refine lv_if_eq (tgt := 16) X.hx X.hb dX2_betFrom_8 (by decide) (fun hc => ?_) (fun hc => ?_)
  · replace hf := gif_t hf hc
    clear hc
    exact hj4 _ _ _ _ hf h (lv_sub hl [4, 5, 0] rfl)
  · replace hf := gif_f hf hc
    clear hc
    refine lv_iload X.hx X.hb dX2_betFrom_11 (lv_at hl 0 rfl) ?_
    refine lv_if_ne (tgt := 32) X.hx X.hb dX2_betFrom_13 (by decide) (fun hc => ?_) (fun hc => ?_)
    · replace hf := gif_f hf hc
      clear hc
      refine lv_lconst (v := 0) X.hx X.hb dX2_betFrom_32 (by decide) ?_
      refine lv_lstore (lv' := [(7, .long 0), (6, .int x1), (0, .ref (ad b0)), (1, .int a1), (2, .int a2), (3, .int a3), (4, .long a4)]) X.hx X.hb dX2_betFrom_33 hl (by decide) rfl (fun ls hl => ?_)
      refine lv_iconst (v := 0) X.hx X.hb dX2_betFrom_35 (by decide) ?_
      refine lv_istore (lv' := [(9, .int 0), (7, .long 0), (6, .int x1), (0, .ref (ad b0)), (1, .int a1), (2, .int a2), (3, .int a3), (4, .long a4)]) X.hx X.hb dX2_betFrom_36 hl (by decide) rfl (fun ls hl => ?_)
      refine wX2_betFrom_L38 l _ rec b0 a1 a2 a3 a4 x1 X hr hlk hrec 10000 _ _ _ _ _ _ hf h (lv_sub hl [3, 4, 5, 6, 7, 2, 1, 0] rfl)
    · replace hf := gif_t hf hc
      clear hc
      exact hj4 _ _ _ _ hf h (lv_sub hl [4, 5, 0] rfl)
def fX2_betFrom : Nat → gM → Nat → Int32 → Int32 → Int32 → Int64 → gR
  | 0, _, _, _, _, _, _ => none
  | d + 1, μ0, b0, a1, a2, a3, a4 => fX2_betFrom_B (fX2_betFrom d) μ0 b0 a1 a2 a3 a4
theorem wX2_betFrom (l : Launch) (Γ : gG) : ∀ (dd : Nat) (ad : Nat → Nat) (μ0 : gM) (b0 : Nat) (a1 : Int32) (a2 : Int32) (a3 : Int32) (a4 : Int64) (r : Option Value × gM), fX2_betFrom dd μ0 b0 a1 a2 a3 a4 = some r → gMt0 l Γ yX2_betFrom (ws_ yX2_betFrom cX2_betFrom 10 (some .long)) ({ frames := 3 + dd, cells := 0, slots := 0, locals := 70 + dd * 29 } : Room) 0 0 ad μ0 [.ref (ad b0), .int a1, .int a2, .int a3, .long a4] r := by
  intro dd
  induction dd with
  | zero =>
    intro ad μ0 b0 a1 a2 a3 a4 r hf
    have hf : (none : gR) = some r := hf
    cases hf
  | succ dd ih =>
    intro ad μ0 b0 a1 a2 a3 a4 r hf
    exact wX2_betFrom_B l Γ dd (fX2_betFrom dd) ih ad μ0 b0 a1 a2 a3 a4 r hf
/-! X2_isKey -/
def fX2_isKey (μ0 : gM) (b0 : Nat) (a1 : Int32) : gR := gI (gfld μ0 b0 2 11) fun x1 => cI (fX2_in μ0 a1 0 (x1 - 1)) fun x2 μ3 => rZ x2 μ3
set_option maxHeartbeats 4000000 in
theorem wX2_isKey (l : Launch) (Γ : gG) (ad : Nat → Nat) (μ0 : gM) (b0 : Nat) (a1 : Int32) (r : Option Value × gM) (hf : fX2_isKey μ0 b0 a1 = some r) : gMt0 l Γ yX2_isKey (ws_ yX2_isKey cX2_isKey 2 (some .boolean)) ({ frames := 1, cells := 0, slots := 0, locals := 22 } : Room) 0 0 ad μ0 [.ref (ad b0), .int a1] r := by
  intro sz
  refine g_start (maxL := 2) (ret := (some .boolean)) (by decide) rfl g_all (Nat.le_of_ble_eq_true rfl) ?_
  intro p e s m below meth c ls hr hlk hnm X h hl
  generalize gA ad μ0 sz = A at X h ⊢
  generalize ([.ref (ad b0), .int a1] : List Value).toArray = args at X ⊢
  have X : gX p m c cX2_isKey 2 s args "SandPianoModel" Γ A := X
  have hl : lv_has ls 2 [(0, .ref (ad b0)), (1, .int a1)] := hl
  show W p l e ({ frames := 1, cells := 0, slots := 0, locals := 22 } : Room) s m args below meth c s.heap [] 0 0 (MQ below (gQ0 Γ ad μ0.1 r A) args s 0 0 A) (F0 m 0 ls [])
  unfold fX2_isKey at hf
  refine lv_iload_n X.hx X.hb dX2_isKey_0 rfl (lv_at hl 1 rfl) ?_
  refine lv_iconst (v := 0) X.hx X.hb dX2_isKey_1 (by decide) ?_
  refine lv_aload_n X.hx X.hb dX2_isKey_2 rfl (lv_at hl 0 rfl) ?_
  refine r_getI X h (ci := 2) (k := 11) (C := RX2) (T := TX2) (N := 36) rfl in_X2 (by decide) q1070 rfl dX2_isKey_3 hf (fun x1 hf => ?_)
  refine lv_iconst (v := 1) X.hx X.hb dX2_isKey_6 (by decide) ?_
  refine lv_isub X.hx X.hb dX2_isKey_7 ?_
  refine r_cSI (As := [.int a1, .int 0, .int (x1 - 1)]) (rest := []) X h hf (fun res hres => wX2_in l Γ ad _ a1 0 (x1 - 1) res hres) (va_cwS 3 X.hts (lw_S q1177 q1178 q84 q1179) rfl rfl rfl (by decide +kernel) ⟨Nat.le_of_ble_eq_true rfl, Nat.le_of_ble_eq_true rfl⟩) rfl ⟨hl.1, Nat.le_of_ble_eq_true rfl, Nat.le_of_ble_eq_true rfl, Nat.le_of_ble_eq_true rfl⟩ rfl dX2_isKey_8 (fun x2 μ3 H locs hf h => ?_)
  exact r_rz X h hr hlk (Nat.le_of_ble_eq_true rfl) (Nat.le_of_ble_eq_true rfl) dX2_isKey_11 hf
/-! X2_part -/
def fX2_part_L6 (b0 : Nat) (a1 : Int64) (a2 : Int64) (kx31 : Int64 → gM → gR) : Nat → Int64 → Int64 → gM → gR
  | 0, _, _, _ => none
  | n4 + 1, x1, x2, μ3 => if (lg_cmp x2 0) = 0 then (kx31 x1 μ3) else (gne x2 0 <| gnm ((x1 - x1 / x2 * x2)) fun x5 => fX2_part_L6 b0 a1 a2 kx31 n4 x2 x5 μ3)
set_option maxHeartbeats 4000000 in
theorem wX2_part_L6 {p : Program} {e : Env} {s : State} {m : MethodId} {args : Array Value} {below : List Frame} {meth : Method} {c : Code} {Γ : gG} {A : Nat → Prop} {nz : Nat} {ad : Nat → Nat} {r : Option Value × gM} (l : Launch) (b0 : Nat) (a1 : Int64) (a2 : Int64) (kx31 : Int64 → gM → gR) (X : gX p m c cX2_part 11 s args "SandPianoModel" Γ A) (hr : meth.sig.returnType = (some .int)) (hlk : meth.locks = false) (hk31 : ∀ (x6 : Int64) (μ : gM) (H : Heap) (locs : List Loc) (ls : Array Slot), kx31 x6 μ = some r → gWd Γ A nz ad μ s.heap H locs → lv_has ls 11 [(0, .ref (ad b0)), (1, .long a1), (3, .long a2), (5, .long x6)] → W p l e ({ frames := 0, cells := 0, slots := 0, locals := 0 } : Room) s m args below meth c H locs 0 0 (MQ below (gQ0 Γ ad nz r A) args s 0 0 A) (F0 m 31 ls [])) : ∀ (n4 : Nat) (x1 : Int64) (x2 : Int64) (μ3 : gM) (H : Heap) (locs : List Loc) (ls : Array Slot), fX2_part_L6 b0 a1 a2 kx31 n4 x1 x2 μ3 = some r → gWd Γ A nz ad μ3 s.heap H locs → lv_has ls 11 [(0, .ref (ad b0)), (1, .long a1), (3, .long a2), (5, .long x1), (7, .long x2)] → W p l e ({ frames := 0, cells := 0, slots := 0, locals := 0 } : Room) s m args below meth c H locs 0 0 (MQ below (gQ0 Γ ad nz r A) args s 0 0 A) (F0 m 6 ls []) := by
  intro n4
  induction n4 with
  | zero =>
    intro x1 x2 μ3 H locs ls hf h hl
    have hf : (none : gR) = some r := hf
    cases hf
  | succ n4 ih =>
    intro x1 x2 μ3 H locs ls hf h hl
    rw [fX2_part_L6] at hf
    refine lv_lload X.hx X.hb dX2_part_6 (lv_at hl 4 rfl) ?_
    refine lv_lconst (v := 0) X.hx X.hb dX2_part_8 (by decide) ?_
    refine W.lcmp X.hx X.hb dX2_part_9 ?_
    refine lv_if_eq (tgt := 31) X.hx X.hb dX2_part_10 (by decide) (fun hc => ?_) (fun hc => ?_)
    · replace hf := gif_t hf hc
      clear hc
      exact hk31 _ _ _ _ _ hf h (lv_sub hl [0, 1, 2, 3] rfl)
    · replace hf := gif_f hf hc
      clear hc
      refine lv_lload X.hx X.hb dX2_part_13 (lv_at hl 3 rfl) ?_
      refine lv_lload X.hx X.hb dX2_part_15 (lv_at hl 4 rfl) ?_
      obtain ⟨hne, hf⟩ := gne_some hf
      refine lv_lrem X.hx X.hb dX2_part_17 hne ?_
      refine r_nmJ hf (fun x5 hf => ?_)
      refine lv_lstore (lv' := [(9, .long x5), (0, .ref (ad b0)), (1, .long a1), (3, .long a2), (5, .long x1), (7, .long x2)]) X.hx X.hb dX2_part_18 hl (by decide) rfl (fun ls hl => ?_)
      refine lv_lload X.hx X.hb dX2_part_20 (lv_at hl 5 rfl) ?_
      refine lv_lstore (lv' := [(5, .long x2), (9, .long x5), (0, .ref (ad b0)), (1, .long a1), (3, .long a2), (7, .long x2)]) X.hx X.hb dX2_part_22 hl (by decide) rfl (fun ls hl => ?_)
      refine lv_lload X.hx X.hb dX2_part_24 (lv_at hl 1 rfl) ?_
      refine lv_lstore (lv' := [(7, .long x5), (5, .long x2), (9, .long x5), (0, .ref (ad b0)), (1, .long a1), (3, .long a2)]) X.hx X.hb dX2_part_26 hl (by decide) rfl (fun ls hl => ?_)
      refine lv_goto (tgt := 6) X.hx X.hb dX2_part_28 (by decide) ?_
      exact ih _ _ _ _ _ _ hf h (lv_sub hl [3, 4, 5, 1, 0] rfl)
def fX2_part (μ0 : gM) (b0 : Nat) (a1 : Int64) (a2 : Int64) : gR := fX2_part_L6 b0 a1 a2 (fun (x7 : Int64) (μ8 : gM) => gne x7 0 <| gpf μ8 b0 2 3 (.long (a1 / x7)) fun μ9 => gne x7 0 <| gpf μ9 b0 2 4 (.long (a2 / x7)) fun μ10 => some (some (.int 1), μ10)) 10000 a1 a2 μ0
set_option maxHeartbeats 4000000 in
theorem wX2_part (l : Launch) (Γ : gG) (ad : Nat → Nat) (μ0 : gM) (b0 : Nat) (a1 : Int64) (a2 : Int64) (r : Option Value × gM) (hf : fX2_part μ0 b0 a1 a2 = some r) : gMt0 l Γ yX2_part (ws_ yX2_part cX2_part 11 (some .int)) ({ frames := 0, cells := 0, slots := 0, locals := 0 } : Room) 0 0 ad μ0 [.ref (ad b0), .long a1, .long a2] r := by
  intro sz
  refine g_start (maxL := 11) (ret := (some .int)) (by decide) rfl g_all (Nat.le_of_ble_eq_true rfl) ?_
  intro p e s m below meth c ls hr hlk hnm X h hl
  generalize gA ad μ0 sz = A at X h ⊢
  generalize ([.ref (ad b0), .long a1, .long a2] : List Value).toArray = args at X ⊢
  have X : gX p m c cX2_part 11 s args "SandPianoModel" Γ A := X
  have hl : lv_has ls 11 [(0, .ref (ad b0)), (1, .long a1), (3, .long a2)] := hl
  show W p l e ({ frames := 0, cells := 0, slots := 0, locals := 0 } : Room) s m args below meth c s.heap [] 0 0 (MQ below (gQ0 Γ ad μ0.1 r A) args s 0 0 A) (F0 m 0 ls [])
  unfold fX2_part at hf
  refine lv_lload_n X.hx X.hb dX2_part_0 rfl (lv_at hl 1 rfl) ?_
  refine lv_lstore (lv' := [(5, .long a1), (0, .ref (ad b0)), (1, .long a1), (3, .long a2)]) X.hx X.hb dX2_part_1 hl (by decide) rfl (fun ls hl => ?_)
  refine lv_lload_n X.hx X.hb dX2_part_3 rfl (lv_at hl 3 rfl) ?_
  refine lv_lstore (lv' := [(7, .long a2), (5, .long a1), (0, .ref (ad b0)), (1, .long a1), (3, .long a2)]) X.hx X.hb dX2_part_4 hl (by decide) rfl (fun ls hl => ?_)
  refine wX2_part_L6 l b0 a1 a2 _ X hr hlk (fun x7 μ8 H locs ls hf h hl => ?_) 10000 _ _ _ _ _ _ hf h (lv_sub hl [2, 3, 4, 1, 0] rfl)
  refine lv_aload_n X.hx X.hb dX2_part_31 rfl (lv_at hl 0 rfl) ?_
  refine lv_lload_n X.hx X.hb dX2_part_32 rfl (lv_at hl 1 rfl) ?_
  refine lv_lload X.hx X.hb dX2_part_33 (lv_at hl 3 rfl) ?_
  obtain ⟨hne, hf⟩ := gne_some hf
  refine lv_ldiv X.hx X.hb dX2_part_35 hne ?_
  refine r_put X h (ci := 2) (k := 3) (C := RX2) (T := TX2) (N := 36) (ty0 := tyX2) (ty := .long) (v := .long (a1 / x7)) rfl in_X2 tyX2_ok nmX2 (by decide) q1062 rfl rfl (by decide +kernel) rfl rfl (fun j hj => by cases hj) dX2_part_36 hf (fun μ9 H locs hf h => ?_)
  refine lv_aload_n X.hx X.hb dX2_part_39 rfl (lv_at hl 0 rfl) ?_
  refine lv_lload_n X.hx X.hb dX2_part_40 rfl (lv_at hl 2 rfl) ?_
  refine lv_lload X.hx X.hb dX2_part_41 (lv_at hl 3 rfl) ?_
  obtain ⟨hne, hf⟩ := gne_some hf
  refine lv_ldiv X.hx X.hb dX2_part_43 hne ?_
  refine r_put X h (ci := 2) (k := 4) (C := RX2) (T := TX2) (N := 36) (ty0 := tyX2) (ty := .long) (v := .long (a2 / x7)) rfl in_X2 tyX2_ok nmX2 (by decide) q1063 rfl rfl (by decide +kernel) rfl rfl (fun j hj => by cases hj) dX2_part_44 hf (fun μ10 H locs hf h => ?_)
  refine lv_iconst (v := 1) X.hx X.hb dX2_part_47 (by decide) ?_
  exact r_ri X h hr hlk (Nat.le_of_ble_eq_true rfl) (Nat.le_of_ble_eq_true rfl) dX2_part_48 hf
/-! X2_bet -/
def fX2_bet_L24 (b0 : Nat) (a1 : Int32) (a2 : Int32) (kx42 : Int64 → gM → gR) : Nat → Int64 → Int32 → gM → gR
  | 0, _, _, _ => none
  | n8 + 1, x5, x6, μ7 => if a2 ≤ x6 then (kx42 x5 μ7) else (gnm ((x5 * 60)) fun x9 => gnm (x6 + 1) fun x10 => fX2_bet_L24 b0 a1 a2 kx42 n8 x9 x10 μ7)
set_option maxHeartbeats 4000000 in
theorem wX2_bet_L24 {p : Program} {e : Env} {s : State} {m : MethodId} {args : Array Value} {below : List Frame} {meth : Method} {c : Code} {Γ : gG} {A : Nat → Prop} {nz : Nat} {ad : Nat → Nat} {r : Option Value × gM} (l : Launch) (b0 : Nat) (a1 : Int32) (a2 : Int32) (kx42 : Int64 → gM → gR) (X : gX p m c cX2_bet 6 s args "SandPianoModel" Γ A) (hr : meth.sig.returnType = (some .int)) (hlk : meth.locks = false) (hk42 : ∀ (x11 : Int64) (μ : gM) (H : Heap) (locs : List Loc) (ls : Array Slot), kx42 x11 μ = some r → gWd Γ A nz ad μ s.heap H locs → lv_has ls 6 [(0, .ref (ad b0)), (1, .int a1), (2, .int a2), (3, .long x11)] → W p l e ({ frames := 12, cells := 0, slots := 0, locals := 331 } : Room) s m args below meth c H locs 0 0 (MQ below (gQ0 Γ ad nz r A) args s 0 0 A) (F0 m 42 ls [])) : ∀ (n8 : Nat) (x5 : Int64) (x6 : Int32) (μ7 : gM) (H : Heap) (locs : List Loc) (ls : Array Slot), fX2_bet_L24 b0 a1 a2 kx42 n8 x5 x6 μ7 = some r → gWd Γ A nz ad μ7 s.heap H locs → lv_has ls 6 [(0, .ref (ad b0)), (1, .int a1), (2, .int a2), (3, .long x5), (5, .int x6)] → W p l e ({ frames := 12, cells := 0, slots := 0, locals := 331 } : Room) s m args below meth c H locs 0 0 (MQ below (gQ0 Γ ad nz r A) args s 0 0 A) (F0 m 24 ls []) := by
  intro n8
  induction n8 with
  | zero =>
    intro x5 x6 μ7 H locs ls hf h hl
    have hf : (none : gR) = some r := hf
    cases hf
  | succ n8 ih =>
    intro x5 x6 μ7 H locs ls hf h hl
    rw [fX2_bet_L24] at hf
    refine lv_iload X.hx X.hb dX2_bet_24 (lv_at hl 4 rfl) ?_
    refine lv_iload_n X.hx X.hb dX2_bet_26 rfl (lv_at hl 2 rfl) ?_
    refine lv_icmp_ge (tgt := 42) X.hx X.hb dX2_bet_27 (by decide) (fun hc => ?_) (fun hc => ?_)
    · replace hf := gif_t hf hc
      clear hc
      exact hk42 _ _ _ _ _ hf h (lv_sub hl [0, 1, 2, 3] rfl)
    · replace hf := gif_f hf hc
      clear hc
      refine lv_lload_n X.hx X.hb dX2_bet_30 rfl (lv_at hl 3 rfl) ?_
      refine lv_ldc2 (v := 60) X.hx X.hb X.hown (X.hts _ q1508) dX2_bet_31 ?_
      refine lv_lmul X.hx X.hb dX2_bet_34 ?_
      refine r_nmJ hf (fun x9 hf => ?_)
      refine lv_lstore_n (lv' := [(3, .long x9), (0, .ref (ad b0)), (1, .int a1), (2, .int a2), (5, .int x6)]) X.hx X.hb dX2_bet_35 rfl hl (by decide) rfl (fun ls hl => ?_)
      refine r_nmk hf (fun x10 ex hf => ?_)
      refine lv_iinc (v := x10) (lv' := [(5, .int x10), (3, .long x9), (0, .ref (ad b0)), (1, .int a1), (2, .int a2)]) X.hx X.hb dX2_bet_36 hl (k := 4) rfl (by rw [ex]; rfl) (by decide) rfl (fun ls hl => ?_)
      clear ex
      refine lv_goto (tgt := 24) X.hx X.hb dX2_bet_39 (by decide) ?_
      exact ih _ _ _ _ _ _ hf h (lv_sub hl [2, 3, 4, 1, 0] rfl)
def fX2_bet (μ0 : gM) (b0 : Nat) (a1 : Int32) (a2 : Int32) : gR := gis μ0 b0 2 <| cI (fX2_isKey μ0 b0 a1) fun x1 μ2 => if x1 = 0 then (some (some (.int (-1)), μ2)) else (cI (fX2_in μ2 a2 0 5) fun x3 μ4 => if x3 = 0 then (some (some (.int (-1)), μ4)) else (fX2_bet_L24 b0 a1 a2 (fun (x12 : Int64) (μ13 : gM) => gis μ13 b0 2 <| cJ (fX2_betFrom 8 μ13 b0 0 a2 a1 x12) fun x14 μ15 => gis μ15 b0 2 <| cI (fX2_part μ15 b0 x14 x12) fun x16 μ17 => some (some (.int x16), μ17)) 10000 1 0 μ4))
set_option maxHeartbeats 4000000 in
theorem wX2_bet (l : Launch) (Γ : gG) (ad : Nat → Nat) (μ0 : gM) (b0 : Nat) (a1 : Int32) (a2 : Int32) (r : Option Value × gM) (hf : fX2_bet μ0 b0 a1 a2 = some r) : gMt0 l Γ yX2_bet (ws_ yX2_bet cX2_bet 6 (some .int)) ({ frames := 12, cells := 0, slots := 0, locals := 331 } : Room) 0 0 ad μ0 [.ref (ad b0), .int a1, .int a2] r := by
  intro sz
  refine g_start (maxL := 6) (ret := (some .int)) (by decide) rfl g_all (Nat.le_of_ble_eq_true rfl) ?_
  intro p e s m below meth c ls hr hlk hnm X h hl
  generalize gA ad μ0 sz = A at X h ⊢
  generalize ([.ref (ad b0), .int a1, .int a2] : List Value).toArray = args at X ⊢
  have X : gX p m c cX2_bet 6 s args "SandPianoModel" Γ A := X
  have hl : lv_has ls 6 [(0, .ref (ad b0)), (1, .int a1), (2, .int a2)] := hl
  show W p l e ({ frames := 12, cells := 0, slots := 0, locals := 331 } : Room) s m args below meth c s.heap [] 0 0 (MQ below (gQ0 Γ ad μ0.1 r A) args s 0 0 A) (F0 m 0 ls [])
  unfold fX2_bet at hf
  refine lv_aload_n X.hx X.hb dX2_bet_0 rfl (lv_at hl 0 rfl) ?_
  refine lv_iload_n X.hx X.hb dX2_bet_1 rfl (lv_at hl 1 rfl) ?_
  refine r_cVI (As := [.int a1]) (rest := []) (C := RX2) (T := TX2) (N := 36) X h hf (fun res hres => wX2_isKey l Γ ad _ b0 a1 res hres) rfl (cwV 1 X.hts (lw_V q1281 q1283 qs47 q84 q1284) rfl rfl rfl (by decide +kernel) ⟨Nat.le_of_ble_eq_true rfl, Nat.le_of_ble_eq_true rfl⟩) rfl ⟨hl.1, Nat.le_of_ble_eq_true rfl, Nat.le_of_ble_eq_true rfl, Nat.le_of_ble_eq_true rfl⟩ rfl dX2_bet_2 (fun x1 μ2 H locs hf h => ?_)
  refine lv_if_eq (tgt := 17) X.hx X.hb dX2_bet_5 (by decide) (fun hc => ?_) (fun hc => ?_)
  · replace hf := gif_t hf hc
    clear hc
    refine lv_iconst (v := (-1)) X.hx X.hb dX2_bet_17 (by decide) ?_
    exact r_ri X h hr hlk (Nat.le_of_ble_eq_true rfl) (Nat.le_of_ble_eq_true rfl) dX2_bet_18 hf
  · replace hf := gif_f hf hc
    clear hc
    refine lv_iload_n X.hx X.hb dX2_bet_8 rfl (lv_at hl 2 rfl) ?_
    refine lv_iconst (v := 0) X.hx X.hb dX2_bet_9 (by decide) ?_
    refine lv_iconst (v := 5) X.hx X.hb dX2_bet_10 (by decide) ?_
    refine r_cSI (As := [.int a2, .int 0, .int 5]) (rest := []) X h hf (fun res hres => wX2_in l Γ ad _ a2 0 5 res hres) (va_cwS 3 X.hts (lw_S q1177 q1178 q84 q1179) rfl rfl rfl (by decide +kernel) ⟨Nat.le_of_ble_eq_true rfl, Nat.le_of_ble_eq_true rfl⟩) rfl ⟨hl.1, Nat.le_of_ble_eq_true rfl, Nat.le_of_ble_eq_true rfl, Nat.le_of_ble_eq_true rfl⟩ rfl dX2_bet_11 (fun x3 μ4 H locs hf h => ?_)
    refine lv_if_ne (tgt := 19) X.hx X.hb dX2_bet_14 (by decide) (fun hc => ?_) (fun hc => ?_)
    · replace hf := gif_f hf hc
      clear hc
      refine lv_lconst (v := 1) X.hx X.hb dX2_bet_19 (by decide) ?_
      refine lv_lstore_n (lv' := [(3, .long 1), (0, .ref (ad b0)), (1, .int a1), (2, .int a2)]) X.hx X.hb dX2_bet_20 rfl hl (by decide) rfl (fun ls hl => ?_)
      refine lv_iconst (v := 0) X.hx X.hb dX2_bet_21 (by decide) ?_
      refine lv_istore (lv' := [(5, .int 0), (3, .long 1), (0, .ref (ad b0)), (1, .int a1), (2, .int a2)]) X.hx X.hb dX2_bet_22 hl (by decide) rfl (fun ls hl => ?_)
      refine wX2_bet_L24 l b0 a1 a2 _ X hr hlk (fun x12 μ13 H locs ls hf h hl => ?_) 10000 _ _ _ _ _ _ hf h (lv_sub hl [2, 3, 4, 1, 0] rfl)
      refine lv_aload_n X.hx X.hb dX2_bet_42 rfl (lv_at hl 0 rfl) ?_
      refine lv_aload_n X.hx X.hb dX2_bet_43 rfl (lv_at hl 0 rfl) ?_
      refine lv_iconst (v := 0) X.hx X.hb dX2_bet_44 (by decide) ?_
      refine lv_iload_n X.hx X.hb dX2_bet_45 rfl (lv_at hl 2 rfl) ?_
      refine lv_iload_n X.hx X.hb dX2_bet_46 rfl (lv_at hl 1 rfl) ?_
      refine lv_lload_n X.hx X.hb dX2_bet_47 rfl (lv_at hl 3 rfl) ?_
      refine r_cVJ (As := [.int 0, .int a2, .int a1, .long x12]) (rest := [.ref (ad b0)]) (C := RX2) (T := TX2) (N := 36) X h hf (fun res hres => wX2_betFrom l Γ 8 ad _ b0 0 a2 a1 x12 res hres) rfl (cwV 4 X.hts (lw_V q1509 q1511 qs77 q84 q1512) rfl rfl rfl (by decide +kernel) ⟨Nat.le_of_ble_eq_true rfl, Nat.le_of_ble_eq_true rfl⟩) rfl ⟨hl.1, Nat.le_of_ble_eq_true rfl, Nat.le_of_ble_eq_true rfl, Nat.le_of_ble_eq_true rfl⟩ rfl dX2_bet_48 (fun x14 μ15 H locs hf h => ?_)
      refine lv_lload_n X.hx X.hb dX2_bet_51 rfl (lv_at hl 3 rfl) ?_
      refine r_cVI (As := [.long x14, .long x12]) (rest := []) (C := RX2) (T := TX2) (N := 36) X h hf (fun res hres => wX2_part l Γ ad _ b0 x14 x12 res hres) rfl (cwV 2 X.hts (lw_V q1500 q1502 qs76 q84 q1503) rfl rfl rfl (by decide +kernel) ⟨Nat.le_of_ble_eq_true rfl, Nat.le_of_ble_eq_true rfl⟩) rfl ⟨hl.1, Nat.le_of_ble_eq_true rfl, Nat.le_of_ble_eq_true rfl, Nat.le_of_ble_eq_true rfl⟩ rfl dX2_bet_52 (fun x16 μ17 H locs hf h => ?_)
      exact r_ri X h hr hlk (Nat.le_of_ble_eq_true rfl) (Nat.le_of_ble_eq_true rfl) dX2_bet_55 hf
    · replace hf := gif_t hf hc
      clear hc
      refine lv_iconst (v := (-1)) X.hx X.hb dX2_bet_17 (by decide) ?_
      exact r_ri X h hr hlk (Nat.le_of_ble_eq_true rfl) (Nat.le_of_ble_eq_true rfl) dX2_bet_18 hf
/-! X2_byteAt -/
def fX2_byteAt (μ0 : gM) (b0 : Nat) (a1 : Int32) (a2 : Int32) : gR := gP (gfld μ0 b0 2 8) fun i1 => gaI μ0 0 i1 a1 fun x2 => if x2 ≤ a2 then (some (some (.int 0), μ0)) else (gP (gfld μ0 b0 2 9) fun i3 => gaI μ0 1 i3 ((60 * a1) + a2) fun x4 => some (some (.int x4), μ0))
set_option maxHeartbeats 4000000 in
theorem wX2_byteAt (l : Launch) (Γ : gG) (ad : Nat → Nat) (μ0 : gM) (b0 : Nat) (a1 : Int32) (a2 : Int32) (r : Option Value × gM) (hf : fX2_byteAt μ0 b0 a1 a2 = some r) : gMt0 l Γ yX2_byteAt (ws_ yX2_byteAt cX2_byteAt 3 (some .int)) ({ frames := 0, cells := 0, slots := 0, locals := 0 } : Room) 0 0 ad μ0 [.ref (ad b0), .int a1, .int a2] r := by
  intro sz
  refine g_start (maxL := 3) (ret := (some .int)) (by decide) rfl g_all (Nat.le_of_ble_eq_true rfl) ?_
  intro p e s m below meth c ls hr hlk hnm X h hl
  generalize gA ad μ0 sz = A at X h ⊢
  generalize ([.ref (ad b0), .int a1, .int a2] : List Value).toArray = args at X ⊢
  have X : gX p m c cX2_byteAt 3 s args "SandPianoModel" Γ A := X
  have hl : lv_has ls 3 [(0, .ref (ad b0)), (1, .int a1), (2, .int a2)] := hl
  show W p l e ({ frames := 0, cells := 0, slots := 0, locals := 0 } : Room) s m args below meth c s.heap [] 0 0 (MQ below (gQ0 Γ ad μ0.1 r A) args s 0 0 A) (F0 m 0 ls [])
  unfold fX2_byteAt at hf
  refine lv_iload_n X.hx X.hb dX2_byteAt_0 rfl (lv_at hl 2 rfl) ?_
  refine lv_aload_n X.hx X.hb dX2_byteAt_1 rfl (lv_at hl 0 rfl) ?_
  refine r_getP X h (ci := 2) (k := 8) (C := RX2) (T := TX2) (N := 36) rfl in_X2 (by decide) q1067 rfl dX2_byteAt_2 hf (fun i1 hf => ?_)
  refine lv_iload_n X.hx X.hb dX2_byteAt_5 rfl (lv_at hl 1 rfl) ?_
  refine r_iald X h dX2_byteAt_6 hf (fun x2 hf => ?_)
  refine lv_icmp_ge (tgt := 24) X.hx X.hb dX2_byteAt_7 (by decide) (fun hc => ?_) (fun hc => ?_)
  · replace hf := gif_t hf hc
    clear hc
    refine lv_iconst (v := 0) X.hx X.hb dX2_byteAt_24 (by decide) ?_
    exact r_ri X h hr hlk (Nat.le_of_ble_eq_true rfl) (Nat.le_of_ble_eq_true rfl) dX2_byteAt_25 hf
  · replace hf := gif_f hf hc
    clear hc
    refine lv_aload_n X.hx X.hb dX2_byteAt_10 rfl (lv_at hl 0 rfl) ?_
    refine r_getP X h (ci := 2) (k := 9) (C := RX2) (T := TX2) (N := 36) rfl in_X2 (by decide) q1068 rfl dX2_byteAt_11 hf (fun i3 hf => ?_)
    refine lv_bipush (v := 60) X.hx X.hb dX2_byteAt_14 (by decide) ?_
    refine lv_iload_n X.hx X.hb dX2_byteAt_16 rfl (lv_at hl 1 rfl) ?_
    refine lv_imul X.hx X.hb dX2_byteAt_17 ?_
    refine lv_iload_n X.hx X.hb dX2_byteAt_18 rfl (lv_at hl 2 rfl) ?_
    refine lv_iadd X.hx X.hb dX2_byteAt_19 ?_
    refine r_bald X h dX2_byteAt_20 hf (fun x4 hf => ?_)
    refine lv_goto (tgt := 25) X.hx X.hb dX2_byteAt_21 (by decide) ?_
    exact r_ri X h hr hlk (Nat.le_of_ble_eq_true rfl) (Nat.le_of_ble_eq_true rfl) dX2_byteAt_25 hf
/-! X2_can -/
def fX2_can (μ0 : gM) (b0 : Nat) : gR := gis μ0 b0 2 <| cI (fX2_canSet μ0 b0 0) fun x1 μ2 => some (some (.int x1), μ2)
set_option maxHeartbeats 4000000 in
theorem wX2_can (l : Launch) (Γ : gG) (ad : Nat → Nat) (μ0 : gM) (b0 : Nat) (r : Option Value × gM) (hf : fX2_can μ0 b0 = some r) : gMt0 l Γ yX2_can (ws_ yX2_can cX2_can 1 (some .int)) ({ frames := 3, cells := 0, slots := 0, locals := 68 } : Room) 0 0 ad μ0 [.ref (ad b0)] r := by
  intro sz
  refine g_start (maxL := 1) (ret := (some .int)) (by decide) rfl g_all (Nat.le_of_ble_eq_true rfl) ?_
  intro p e s m below meth c ls hr hlk hnm X h hl
  generalize gA ad μ0 sz = A at X h ⊢
  generalize ([.ref (ad b0)] : List Value).toArray = args at X ⊢
  have X : gX p m c cX2_can 1 s args "SandPianoModel" Γ A := X
  have hl : lv_has ls 1 [(0, .ref (ad b0))] := hl
  show W p l e ({ frames := 3, cells := 0, slots := 0, locals := 68 } : Room) s m args below meth c s.heap [] 0 0 (MQ below (gQ0 Γ ad μ0.1 r A) args s 0 0 A) (F0 m 0 ls [])
  unfold fX2_can at hf
  refine lv_aload_n X.hx X.hb dX2_can_0 rfl (lv_at hl 0 rfl) ?_
  refine lv_iconst (v := 0) X.hx X.hb dX2_can_1 (by decide) ?_
  refine r_cVI (As := [.int 0]) (rest := []) (C := RX2) (T := TX2) (N := 36) X h hf (fun res hres => wX2_canSet l Γ ad _ b0 0 res hres) rfl (cwV 1 X.hts (lw_V q1311 q1313 qs52 q84 q1314) rfl rfl rfl (by decide +kernel) ⟨Nat.le_of_ble_eq_true rfl, Nat.le_of_ble_eq_true rfl⟩) rfl ⟨hl.1, Nat.le_of_ble_eq_true rfl, Nat.le_of_ble_eq_true rfl, Nat.le_of_ble_eq_true rfl⟩ rfl dX2_can_2 (fun x1 μ2 H locs hf h => ?_)
  exact r_ri X h hr hlk (Nat.le_of_ble_eq_true rfl) (Nat.le_of_ble_eq_true rfl) dX2_can_5 hf
/-! X2_copy -/
def fX2_copy_L104 (b0 : Nat) (a1 : Int32) (a2 : Int32) (a3 : Int32) (a4 : Int32) (a5 : Int32) (kx133 : gM → gR) : Nat → Int32 → gM → gR
  | 0, _, _ => none
  | n23 + 1, x21, μ22 => if a5 ≤ x21 then (kx133 μ22) else (gP (gfld μ22 b0 2 7) fun i24 => gis μ22 b0 2 <| cI (fX2_rowAt μ22 b0 a1 (a2 + x21)) fun x25 μ26 => gsI μ26 0 i24 x21 x25 fun μ27 => gnm (x21 + 1) fun x28 => fX2_copy_L104 b0 a1 a2 a3 a4 a5 kx133 n23 x28 μ27)
set_option maxHeartbeats 4000000 in
theorem wX2_copy_L104 {p : Program} {e : Env} {s : State} {m : MethodId} {args : Array Value} {below : List Frame} {meth : Method} {c : Code} {Γ : gG} {A : Nat → Prop} {nz : Nat} {ad : Nat → Nat} {r : Option Value × gM} (l : Launch) (b0 : Nat) (a1 : Int32) (a2 : Int32) (a3 : Int32) (a4 : Int32) (a5 : Int32) (kx133 : gM → gR) (X : gX p m c cX2_copy 7 s args "SandPianoModel" Γ A) (hr : meth.sig.returnType = (some .int)) (hlk : meth.locks = false) (hk133 : ∀  (μ : gM) (H : Heap) (locs : List Loc) (ls : Array Slot), kx133  μ = some r → gWd Γ A nz ad μ s.heap H locs → lv_has ls 7 [(0, .ref (ad b0)), (3, .int a3), (4, .int a4), (5, .int a5)] → W p l e ({ frames := 2, cells := 0, slots := 0, locals := 42 } : Room) s m args below meth c H locs 0 0 (MQ below (gQ0 Γ ad nz r A) args s 0 0 A) (F0 m 133 ls [])) : ∀ (n23 : Nat) (x21 : Int32) (μ22 : gM) (H : Heap) (locs : List Loc) (ls : Array Slot), fX2_copy_L104 b0 a1 a2 a3 a4 a5 kx133 n23 x21 μ22 = some r → gWd Γ A nz ad μ22 s.heap H locs → lv_has ls 7 [(0, .ref (ad b0)), (1, .int a1), (2, .int a2), (3, .int a3), (4, .int a4), (5, .int a5), (6, .int x21)] → W p l e ({ frames := 2, cells := 0, slots := 0, locals := 42 } : Room) s m args below meth c H locs 0 0 (MQ below (gQ0 Γ ad nz r A) args s 0 0 A) (F0 m 104 ls []) := by
  intro n23
  induction n23 with
  | zero =>
    intro x21 μ22 H locs ls hf h hl
    have hf : (none : gR) = some r := hf
    cases hf
  | succ n23 ih =>
    intro x21 μ22 H locs ls hf h hl
    rw [fX2_copy_L104] at hf
    refine lv_iload X.hx X.hb dX2_copy_104 (lv_at hl 6 rfl) ?_
    refine lv_iload X.hx X.hb dX2_copy_106 (lv_at hl 5 rfl) ?_
    refine lv_icmp_ge (tgt := 133) X.hx X.hb dX2_copy_108 (by decide) (fun hc => ?_) (fun hc => ?_)
    · replace hf := gif_t hf hc
      clear hc
      exact hk133 _ _ _ _ hf h (lv_sub hl [0, 3, 4, 5] rfl)
    · replace hf := gif_f hf hc
      clear hc
      refine lv_aload_n X.hx X.hb dX2_copy_111 rfl (lv_at hl 0 rfl) ?_
      refine r_getP X h (ci := 2) (k := 7) (C := RX2) (T := TX2) (N := 36) rfl in_X2 (by decide) q1066 rfl dX2_copy_112 hf (fun i24 hf => ?_)
      refine lv_iload X.hx X.hb dX2_copy_115 (lv_at hl 6 rfl) ?_
      refine lv_aload_n X.hx X.hb dX2_copy_117 rfl (lv_at hl 0 rfl) ?_
      refine lv_iload_n X.hx X.hb dX2_copy_118 rfl (lv_at hl 1 rfl) ?_
      refine lv_iload_n X.hx X.hb dX2_copy_119 rfl (lv_at hl 2 rfl) ?_
      refine lv_iload X.hx X.hb dX2_copy_120 (lv_at hl 6 rfl) ?_
      refine lv_iadd X.hx X.hb dX2_copy_122 ?_
      refine r_cVI (As := [.int a1, .int (a2 + x21)]) (rest := [.int x21, .ref (ad i24)]) (C := RX2) (T := TX2) (N := 36) X h hf (fun res hres => wX2_rowAt l Γ ad _ b0 a1 (a2 + x21) res hres) rfl (cwV 2 X.hts (lw_V q1207 q1209 qs39 q84 q1210) rfl rfl rfl (by decide +kernel) ⟨Nat.le_of_ble_eq_true rfl, Nat.le_of_ble_eq_true rfl⟩) rfl ⟨hl.1, Nat.le_of_ble_eq_true rfl, Nat.le_of_ble_eq_true rfl, Nat.le_of_ble_eq_true rfl⟩ rfl dX2_copy_123 (fun x25 μ26 H locs hf h => ?_)
      refine r_iast X h dX2_copy_126 hf (fun μ27 H locs hf h => ?_)
      refine r_nmk hf (fun x28 ex hf => ?_)
      refine lv_iinc (v := x28) (lv' := [(6, .int x28), (0, .ref (ad b0)), (1, .int a1), (2, .int a2), (3, .int a3), (4, .int a4), (5, .int a5)]) X.hx X.hb dX2_copy_127 hl (k := 6) rfl (by rw [ex]; rfl) (by decide) rfl (fun ls hl => ?_)
      clear ex
      refine lv_goto (tgt := 104) X.hx X.hb dX2_copy_130 (by decide) ?_
      exact ih _ _ _ _ _ hf h (lv_sub hl [1, 2, 3, 4, 5, 6, 0] rfl)
def fX2_copy_L136 (b0 : Nat) (a3 : Int32) (a4 : Int32) (a5 : Int32) : Nat → Int32 → gM → gR
  | 0, _, _ => none
  | n32 + 1, x30, μ31 => if a5 ≤ x30 then (some (some (.int 1), μ31)) else (gP (gfld μ31 b0 2 6) fun i33 => gP (gfld μ31 b0 2 7) fun i34 => gaI μ31 0 i34 x30 fun x35 => gsI μ31 0 i33 (((40 * a3) + a4) + x30) x35 fun μ36 => gnm (x30 + 1) fun x37 => fX2_copy_L136 b0 a3 a4 a5 n32 x37 μ36)
set_option maxHeartbeats 4000000 in
theorem wX2_copy_L136 {p : Program} {e : Env} {s : State} {m : MethodId} {args : Array Value} {below : List Frame} {meth : Method} {c : Code} {Γ : gG} {A : Nat → Prop} {nz : Nat} {ad : Nat → Nat} {r : Option Value × gM} (l : Launch) (b0 : Nat) (a3 : Int32) (a4 : Int32) (a5 : Int32) (X : gX p m c cX2_copy 7 s args "SandPianoModel" Γ A) (hr : meth.sig.returnType = (some .int)) (hlk : meth.locks = false) : ∀ (n32 : Nat) (x30 : Int32) (μ31 : gM) (H : Heap) (locs : List Loc) (ls : Array Slot), fX2_copy_L136 b0 a3 a4 a5 n32 x30 μ31 = some r → gWd Γ A nz ad μ31 s.heap H locs → lv_has ls 7 [(0, .ref (ad b0)), (3, .int a3), (4, .int a4), (5, .int a5), (6, .int x30)] → W p l e ({ frames := 2, cells := 0, slots := 0, locals := 42 } : Room) s m args below meth c H locs 0 0 (MQ below (gQ0 Γ ad nz r A) args s 0 0 A) (F0 m 136 ls []) := by
  intro n32
  induction n32 with
  | zero =>
    intro x30 μ31 H locs ls hf h hl
    have hf : (none : gR) = some r := hf
    cases hf
  | succ n32 ih =>
    intro x30 μ31 H locs ls hf h hl
    rw [fX2_copy_L136] at hf
    refine lv_iload X.hx X.hb dX2_copy_136 (lv_at hl 4 rfl) ?_
    refine lv_iload X.hx X.hb dX2_copy_138 (lv_at hl 3 rfl) ?_
    refine lv_icmp_ge (tgt := 171) X.hx X.hb dX2_copy_140 (by decide) (fun hc => ?_) (fun hc => ?_)
    · replace hf := gif_t hf hc
      clear hc
      refine lv_iconst (v := 1) X.hx X.hb dX2_copy_171 (by decide) ?_
      exact r_ri X h hr hlk (Nat.le_of_ble_eq_true rfl) (Nat.le_of_ble_eq_true rfl) dX2_copy_172 hf
    · replace hf := gif_f hf hc
      clear hc
      refine lv_aload_n X.hx X.hb dX2_copy_143 rfl (lv_at hl 0 rfl) ?_
      refine r_getP X h (ci := 2) (k := 6) (C := RX2) (T := TX2) (N := 36) rfl in_X2 (by decide) q1065 rfl dX2_copy_144 hf (fun i33 hf => ?_)
      refine lv_bipush (v := 40) X.hx X.hb dX2_copy_147 (by decide) ?_
      refine lv_iload_n X.hx X.hb dX2_copy_149 rfl (lv_at hl 1 rfl) ?_
      refine lv_imul X.hx X.hb dX2_copy_150 ?_
      refine lv_iload X.hx X.hb dX2_copy_151 (lv_at hl 2 rfl) ?_
      refine lv_iadd X.hx X.hb dX2_copy_153 ?_
      refine lv_iload X.hx X.hb dX2_copy_154 (lv_at hl 4 rfl) ?_
      refine lv_iadd X.hx X.hb dX2_copy_156 ?_
      refine lv_aload_n X.hx X.hb dX2_copy_157 rfl (lv_at hl 0 rfl) ?_
      refine r_getP X h (ci := 2) (k := 7) (C := RX2) (T := TX2) (N := 36) rfl in_X2 (by decide) q1066 rfl dX2_copy_158 hf (fun i34 hf => ?_)
      refine lv_iload X.hx X.hb dX2_copy_161 (lv_at hl 4 rfl) ?_
      refine r_iald X h dX2_copy_163 hf (fun x35 hf => ?_)
      refine r_iast X h dX2_copy_164 hf (fun μ36 H locs hf h => ?_)
      refine r_nmk hf (fun x37 ex hf => ?_)
      refine lv_iinc (v := x37) (lv' := [(6, .int x37), (0, .ref (ad b0)), (3, .int a3), (4, .int a4), (5, .int a5)]) X.hx X.hb dX2_copy_165 hl (k := 4) rfl (by rw [ex]; rfl) (by decide) rfl (fun ls hl => ?_)
      clear ex
      refine lv_goto (tgt := 136) X.hx X.hb dX2_copy_168 (by decide) ?_
      exact ih _ _ _ _ _ hf h (lv_sub hl [1, 2, 3, 4, 0] rfl)
def fX2_copy (μ0 : gM) (b0 : Nat) (a1 : Int32) (a2 : Int32) (a3 : Int32) (a4 : Int32) (a5 : Int32) : gR := cI (fX2_isRow μ0 a1) fun x1 μ2 => if x1 = 0 then (some (some (.int (-1)), μ2)) else (cI (fX2_isRow μ2 a3) fun x3 μ4 => if x3 = 0 then (some (some (.int (-1)), μ4)) else (if 0 ≤ a5 then (gP (gfld μ4 b0 2 5) fun i5 => gaI μ4 0 i5 a1 fun x6 => gjn (fun  (μ7 : gM) => gis μ7 b0 2 <| cI (fX2_meets μ7 b0 1) fun x9 μ10 => some (some (.int x9), μ10)) fun j8 => if x6 < 0 then (j8 μ4) else (gP (gfld μ4 b0 2 5) fun i11 => gaI μ4 0 i11 a3 fun x12 => if 0 ≤ x12 then (gjn (fun  (μ13 : gM) => gis μ13 b0 2 <| cI (fX2_meets μ13 b0 2) fun x15 μ16 => some (some (.int x15), μ16)) fun j14 => if a2 < 0 then (j14 μ4) else (if a4 < 0 then (j14 μ4) else (gP (gfld μ4 b0 2 5) fun i17 => gaI μ4 0 i17 a1 fun x18 => if 0 < (lg_cmp (((a2 : Int32).toInt64) + ((a5 : Int32).toInt64)) ((x18 : Int32).toInt64)) then (j14 μ4) else (gP (gfld μ4 b0 2 5) fun i19 => gaI μ4 0 i19 a3 fun x20 => if (lg_cmp (((a4 : Int32).toInt64) + ((a5 : Int32).toInt64)) ((x20 : Int32).toInt64)) ≤ 0 then (fX2_copy_L104 b0 a1 a2 a3 a4 a5 (fun (μ29 : gM) => fX2_copy_L136 b0 a3 a4 a5 10000 0 μ29) 10000 0 μ4) else (j14 μ4))))) else (j8 μ4))) else (gis μ4 b0 2 <| cI (fX2_meets μ4 b0 5) fun x38 μ39 => some (some (.int x38), μ39))))
set_option maxHeartbeats 4000000 in
theorem wX2_copy (l : Launch) (Γ : gG) (ad : Nat → Nat) (μ0 : gM) (b0 : Nat) (a1 : Int32) (a2 : Int32) (a3 : Int32) (a4 : Int32) (a5 : Int32) (r : Option Value × gM) (hf : fX2_copy μ0 b0 a1 a2 a3 a4 a5 = some r) : gMt0 l Γ yX2_copy (ws_ yX2_copy cX2_copy 7 (some .int)) ({ frames := 2, cells := 0, slots := 0, locals := 42 } : Room) 0 0 ad μ0 [.ref (ad b0), .int a1, .int a2, .int a3, .int a4, .int a5] r := by
  intro sz
  refine g_start (maxL := 7) (ret := (some .int)) (by decide) rfl g_all (Nat.le_of_ble_eq_true rfl) ?_
  intro p e s m below meth c ls hr hlk hnm X h hl
  generalize gA ad μ0 sz = A at X h ⊢
  generalize ([.ref (ad b0), .int a1, .int a2, .int a3, .int a4, .int a5] : List Value).toArray = args at X ⊢
  have X : gX p m c cX2_copy 7 s args "SandPianoModel" Γ A := X
  have hl : lv_has ls 7 [(0, .ref (ad b0)), (1, .int a1), (2, .int a2), (3, .int a3), (4, .int a4), (5, .int a5)] := hl
  show W p l e ({ frames := 2, cells := 0, slots := 0, locals := 42 } : Room) s m args below meth c s.heap [] 0 0 (MQ below (gQ0 Γ ad μ0.1 r A) args s 0 0 A) (F0 m 0 ls [])
  unfold fX2_copy at hf
  refine lv_iload_n X.hx X.hb dX2_copy_0 rfl (lv_at hl 1 rfl) ?_
  refine r_cSI (As := [.int a1]) (rest := []) X h hf (fun res hres => wX2_isRow l Γ ad _ a1 res hres) (va_cwS 1 X.hts (lw_S q1196 q1197 q84 q1198) rfl rfl rfl (by decide +kernel) ⟨Nat.le_of_ble_eq_true rfl, Nat.le_of_ble_eq_true rfl⟩) rfl ⟨hl.1, Nat.le_of_ble_eq_true rfl, Nat.le_of_ble_eq_true rfl, Nat.le_of_ble_eq_true rfl⟩ rfl dX2_copy_1 (fun x1 μ2 H locs hf h => ?_)
  refine lv_if_eq (tgt := 14) X.hx X.hb dX2_copy_4 (by decide) (fun hc => ?_) (fun hc => ?_)
  · replace hf := gif_t hf hc
    clear hc
    refine lv_iconst (v := (-1)) X.hx X.hb dX2_copy_14 (by decide) ?_
    exact r_ri X h hr hlk (Nat.le_of_ble_eq_true rfl) (Nat.le_of_ble_eq_true rfl) dX2_copy_15 hf
  · replace hf := gif_f hf hc
    clear hc
    refine lv_iload_n X.hx X.hb dX2_copy_7 rfl (lv_at hl 3 rfl) ?_
    refine r_cSI (As := [.int a3]) (rest := []) X h hf (fun res hres => wX2_isRow l Γ ad _ a3 res hres) (va_cwS 1 X.hts (lw_S q1196 q1197 q84 q1198) rfl rfl rfl (by decide +kernel) ⟨Nat.le_of_ble_eq_true rfl, Nat.le_of_ble_eq_true rfl⟩) rfl ⟨hl.1, Nat.le_of_ble_eq_true rfl, Nat.le_of_ble_eq_true rfl, Nat.le_of_ble_eq_true rfl⟩ rfl dX2_copy_8 (fun x3 μ4 H locs hf h => ?_)
    refine lv_if_ne (tgt := 16) X.hx X.hb dX2_copy_11 (by decide) (fun hc => ?_) (fun hc => ?_)
    · replace hf := gif_f hf hc
      clear hc
      refine lv_iload X.hx X.hb dX2_copy_16 (lv_at hl 5 rfl) ?_
      refine lv_if_ge (tgt := 27) X.hx X.hb dX2_copy_18 (by decide) (fun hc => ?_) (fun hc => ?_)
      · replace hf := gif_t hf hc
        clear hc
        refine lv_aload_n X.hx X.hb dX2_copy_27 rfl (lv_at hl 0 rfl) ?_
        refine r_getP X h (ci := 2) (k := 5) (C := RX2) (T := TX2) (N := 36) rfl in_X2 (by decide) q1064 rfl dX2_copy_28 hf (fun i5 hf => ?_)
        refine lv_iload_n X.hx X.hb dX2_copy_31 rfl (lv_at hl 1 rfl) ?_
        refine r_iald X h dX2_copy_32 hf (fun x6 hf => ?_)
        refine r_jn hf (fun j8 ej8 hf => ?_)
        have hj8 : ∀  (μ7 : gM) (H : Heap) (locs : List Loc) (ls : Array Slot), j8  μ7 = some r → gWd Γ A μ0.1 ad μ7 s.heap H locs → lv_has ls 7 [(0, .ref (ad b0))] → W p l e ({ frames := 2, cells := 0, slots := 0, locals := 42 } : Room) s m args below meth c H locs 0 0 (MQ below (gQ0 Γ ad μ0.1 r A) args s 0 0 A) (F0 m 45 ls []) := by
          intro μ7 H locs ls hf h hl
          rw [ej8] at hf
          refine lv_aload_n X.hx X.hb dX2_copy_45 rfl (lv_at hl 0 rfl) ?_
          refine lv_iconst (v := 1) X.hx X.hb dX2_copy_46 (by decide) ?_
          refine r_cVI (As := [.int 1]) (rest := []) (C := RX2) (T := TX2) (N := 36) X h hf (fun res hres => wX2_meets l Γ ad _ b0 1 res hres) rfl (cwV 1 X.hts (lw_V q1199 q1201 qs38 q84 q1202) rfl rfl rfl (by decide +kernel) ⟨Nat.le_of_ble_eq_true rfl, Nat.le_of_ble_eq_true rfl⟩) rfl ⟨hl.1, Nat.le_of_ble_eq_true rfl, Nat.le_of_ble_eq_true rfl, Nat.le_of_ble_eq_true rfl⟩ rfl dX2_copy_47 (fun x9 μ10 H locs hf h => ?_)
          exact r_ri X h hr hlk (Nat.le_of_ble_eq_true rfl) (Nat.le_of_ble_eq_true rfl) dX2_copy_50 hf
        clear ej8
        refine lv_if_lt (tgt := 45) X.hx X.hb dX2_copy_33 (by decide) (fun hc => ?_) (fun hc => ?_)
        · replace hf := gif_t hf hc
          clear hc
          exact hj8 _ _ _ _ hf h (lv_sub hl [0] rfl)
        · replace hf := gif_f hf hc
          clear hc
          refine lv_aload_n X.hx X.hb dX2_copy_36 rfl (lv_at hl 0 rfl) ?_
          refine r_getP X h (ci := 2) (k := 5) (C := RX2) (T := TX2) (N := 36) rfl in_X2 (by decide) q1064 rfl dX2_copy_37 hf (fun i11 hf => ?_)
          refine lv_iload_n X.hx X.hb dX2_copy_40 rfl (lv_at hl 3 rfl) ?_
          refine r_iald X h dX2_copy_41 hf (fun x12 hf => ?_)
          refine lv_if_ge (tgt := 51) X.hx X.hb dX2_copy_42 (by decide) (fun hc => ?_) (fun hc => ?_)
          · replace hf := gif_t hf hc
            clear hc
            refine lv_iload_n X.hx X.hb dX2_copy_51 rfl (lv_at hl 2 rfl) ?_
            refine r_jn hf (fun j14 ej14 hf => ?_)
            have hj14 : ∀  (μ13 : gM) (H : Heap) (locs : List Loc) (ls : Array Slot), j14  μ13 = some r → gWd Γ A μ0.1 ad μ13 s.heap H locs → lv_has ls 7 [(0, .ref (ad b0))] → W p l e ({ frames := 2, cells := 0, slots := 0, locals := 42 } : Room) s m args below meth c H locs 0 0 (MQ below (gQ0 Γ ad μ0.1 r A) args s 0 0 A) (F0 m 95 ls []) := by
              intro μ13 H locs ls hf h hl
              rw [ej14] at hf
              refine lv_aload_n X.hx X.hb dX2_copy_95 rfl (lv_at hl 0 rfl) ?_
              refine lv_iconst (v := 2) X.hx X.hb dX2_copy_96 (by decide) ?_
              refine r_cVI (As := [.int 2]) (rest := []) (C := RX2) (T := TX2) (N := 36) X h hf (fun res hres => wX2_meets l Γ ad _ b0 2 res hres) rfl (cwV 1 X.hts (lw_V q1199 q1201 qs38 q84 q1202) rfl rfl rfl (by decide +kernel) ⟨Nat.le_of_ble_eq_true rfl, Nat.le_of_ble_eq_true rfl⟩) rfl ⟨hl.1, Nat.le_of_ble_eq_true rfl, Nat.le_of_ble_eq_true rfl, Nat.le_of_ble_eq_true rfl⟩ rfl dX2_copy_97 (fun x15 μ16 H locs hf h => ?_)
              exact r_ri X h hr hlk (Nat.le_of_ble_eq_true rfl) (Nat.le_of_ble_eq_true rfl) dX2_copy_100 hf
            clear ej14
            refine lv_if_lt (tgt := 95) X.hx X.hb dX2_copy_52 (by decide) (fun hc => ?_) (fun hc => ?_)
            · replace hf := gif_t hf hc
              clear hc
              exact hj14 _ _ _ _ hf h (lv_sub hl [0] rfl)
            · replace hf := gif_f hf hc
              clear hc
              refine lv_iload X.hx X.hb dX2_copy_55 (lv_at hl 4 rfl) ?_
              refine lv_if_lt (tgt := 95) X.hx X.hb dX2_copy_57 (by decide) (fun hc => ?_) (fun hc => ?_)
              · replace hf := gif_t hf hc
                clear hc
                exact hj14 _ _ _ _ hf h (lv_sub hl [0] rfl)
              · replace hf := gif_f hf hc
                clear hc
                refine lv_iload_n X.hx X.hb dX2_copy_60 rfl (lv_at hl 2 rfl) ?_
                refine lv_i2l X.hx X.hb dX2_copy_61 rfl ?_
                refine lv_iload X.hx X.hb dX2_copy_62 (lv_at hl 5 rfl) ?_
                refine lv_i2l X.hx X.hb dX2_copy_64 rfl ?_
                refine lv_ladd X.hx X.hb dX2_copy_65 ?_
                refine lv_aload_n X.hx X.hb dX2_copy_66 rfl (lv_at hl 0 rfl) ?_
                refine r_getP X h (ci := 2) (k := 5) (C := RX2) (T := TX2) (N := 36) rfl in_X2 (by decide) q1064 rfl dX2_copy_67 hf (fun i17 hf => ?_)
                refine lv_iload_n X.hx X.hb dX2_copy_70 rfl (lv_at hl 1 rfl) ?_
                refine r_iald X h dX2_copy_71 hf (fun x18 hf => ?_)
                refine lv_i2l X.hx X.hb dX2_copy_72 rfl ?_
                refine W.lcmp X.hx X.hb dX2_copy_73 ?_
                refine lv_if_gt (tgt := 95) X.hx X.hb dX2_copy_74 (by decide) (fun hc => ?_) (fun hc => ?_)
                · replace hf := gif_t hf hc
                  clear hc
                  exact hj14 _ _ _ _ hf h (lv_sub hl [0] rfl)
                · replace hf := gif_f hf hc
                  clear hc
                  refine lv_iload X.hx X.hb dX2_copy_77 (lv_at hl 4 rfl) ?_
                  refine lv_i2l X.hx X.hb dX2_copy_79 rfl ?_
                  refine lv_iload X.hx X.hb dX2_copy_80 (lv_at hl 5 rfl) ?_
                  refine lv_i2l X.hx X.hb dX2_copy_82 rfl ?_
                  refine lv_ladd X.hx X.hb dX2_copy_83 ?_
                  refine lv_aload_n X.hx X.hb dX2_copy_84 rfl (lv_at hl 0 rfl) ?_
                  refine r_getP X h (ci := 2) (k := 5) (C := RX2) (T := TX2) (N := 36) rfl in_X2 (by decide) q1064 rfl dX2_copy_85 hf (fun i19 hf => ?_)
                  refine lv_iload_n X.hx X.hb dX2_copy_88 rfl (lv_at hl 3 rfl) ?_
                  refine r_iald X h dX2_copy_89 hf (fun x20 hf => ?_)
                  refine lv_i2l X.hx X.hb dX2_copy_90 rfl ?_
                  refine W.lcmp X.hx X.hb dX2_copy_91 ?_
                  refine lv_if_le (tgt := 101) X.hx X.hb dX2_copy_92 (by decide) (fun hc => ?_) (fun hc => ?_)
                  · replace hf := gif_t hf hc
                    clear hc
                    refine lv_iconst (v := 0) X.hx X.hb dX2_copy_101 (by decide) ?_
                    refine lv_istore (lv' := [(6, .int 0), (0, .ref (ad b0)), (1, .int a1), (2, .int a2), (3, .int a3), (4, .int a4), (5, .int a5)]) X.hx X.hb dX2_copy_102 hl (by decide) rfl (fun ls hl => ?_)
                    refine wX2_copy_L104 l b0 a1 a2 a3 a4 a5 _ X hr hlk (fun μ29 H locs ls hf h hl => ?_) 10000 _ _ _ _ _ hf h (lv_sub hl [1, 2, 3, 4, 5, 6, 0] rfl)
                    refine lv_iconst (v := 0) X.hx X.hb dX2_copy_133 (by decide) ?_
                    refine lv_istore (lv' := [(6, .int 0), (0, .ref (ad b0)), (3, .int a3), (4, .int a4), (5, .int a5)]) X.hx X.hb dX2_copy_134 hl (by decide) rfl (fun ls hl => ?_)
                    refine wX2_copy_L136 l b0 a3 a4 a5 X hr hlk 10000 _ _ _ _ _ hf h (lv_sub hl [1, 2, 3, 4, 0] rfl)
                  · replace hf := gif_f hf hc
                    clear hc
                    exact hj14 _ _ _ _ hf h (lv_sub hl [0] rfl)
          · replace hf := gif_f hf hc
            clear hc
            exact hj8 _ _ _ _ hf h (lv_sub hl [0] rfl)
      · replace hf := gif_f hf hc
        clear hc
        refine lv_aload_n X.hx X.hb dX2_copy_21 rfl (lv_at hl 0 rfl) ?_
        refine lv_iconst (v := 5) X.hx X.hb dX2_copy_22 (by decide) ?_
        refine r_cVI (As := [.int 5]) (rest := []) (C := RX2) (T := TX2) (N := 36) X h hf (fun res hres => wX2_meets l Γ ad _ b0 5 res hres) rfl (cwV 1 X.hts (lw_V q1199 q1201 qs38 q84 q1202) rfl rfl rfl (by decide +kernel) ⟨Nat.le_of_ble_eq_true rfl, Nat.le_of_ble_eq_true rfl⟩) rfl ⟨hl.1, Nat.le_of_ble_eq_true rfl, Nat.le_of_ble_eq_true rfl, Nat.le_of_ble_eq_true rfl⟩ rfl dX2_copy_23 (fun x38 μ39 H locs hf h => ?_)
        exact r_ri X h hr hlk (Nat.le_of_ble_eq_true rfl) (Nat.le_of_ble_eq_true rfl) dX2_copy_26 hf
    · replace hf := gif_t hf hc
      clear hc
      refine lv_iconst (v := (-1)) X.hx X.hb dX2_copy_14 (by decide) ?_
      exact r_ri X h hr hlk (Nat.le_of_ble_eq_true rfl) (Nat.le_of_ble_eq_true rfl) dX2_copy_15 hf
/-! X2_counted -/
def fX2_counted_L4 (b0 : Nat) (a1 : Int32) (kx51 : Int32 → gM → gR) : Nat → Int32 → Int32 → gM → gR
  | 0, _, _, _ => none
  | n4 + 1, x1, x2, μ3 => gI (gfld μ3 b0 2 11) fun x5 => if x5 ≤ x2 then (kx51 x1 μ3) else (gjn (fun (x6 : Int32) (μ7 : gM) => gnm ((x1 + x6)) fun x9 => gnm (x2 + 1) fun x10 => fX2_counted_L4 b0 a1 kx51 n4 x9 x10 μ7) fun j8 => gjn (fun  (μ11 : gM) => j8 0 μ11) fun j12 => if a1 = 5 then (gP (gfld μ3 b0 2 12) fun i13 => gaI μ3 0 i13 x2 fun x14 => gjn (fun  (μ15 : gM) => j8 1 μ15) fun j16 => if x14 = 1 then (j16 μ3) else (gP (gfld μ3 b0 2 12) fun i17 => gaI μ3 0 i17 x2 fun x18 => if x18 = 4 then (j16 μ3) else (j12 μ3))) else (j12 μ3))
set_option maxHeartbeats 4000000 in
theorem wX2_counted_L4 {p : Program} {e : Env} {s : State} {m : MethodId} {args : Array Value} {below : List Frame} {meth : Method} {c : Code} {Γ : gG} {A : Nat → Prop} {nz : Nat} {ad : Nat → Nat} {r : Option Value × gM} (l : Launch) (b0 : Nat) (a1 : Int32) (kx51 : Int32 → gM → gR) (X : gX p m c cX2_counted 4 s args "SandPianoModel" Γ A) (hr : meth.sig.returnType = (some .int)) (hlk : meth.locks = false) (hk51 : ∀ (x19 : Int32) (μ : gM) (H : Heap) (locs : List Loc) (ls : Array Slot), kx51 x19 μ = some r → gWd Γ A nz ad μ s.heap H locs → lv_has ls 4 [(0, .ref (ad b0)), (1, .int a1), (2, .int x19)] → W p l e ({ frames := 1, cells := 0, slots := 0, locals := 22 } : Room) s m args below meth c H locs 0 0 (MQ below (gQ0 Γ ad nz r A) args s 0 0 A) (F0 m 51 ls [])) : ∀ (n4 : Nat) (x1 : Int32) (x2 : Int32) (μ3 : gM) (H : Heap) (locs : List Loc) (ls : Array Slot), fX2_counted_L4 b0 a1 kx51 n4 x1 x2 μ3 = some r → gWd Γ A nz ad μ3 s.heap H locs → lv_has ls 4 [(0, .ref (ad b0)), (1, .int a1), (2, .int x1), (3, .int x2)] → W p l e ({ frames := 1, cells := 0, slots := 0, locals := 22 } : Room) s m args below meth c H locs 0 0 (MQ below (gQ0 Γ ad nz r A) args s 0 0 A) (F0 m 4 ls []) := by
  intro n4
  induction n4 with
  | zero =>
    intro x1 x2 μ3 H locs ls hf h hl
    have hf : (none : gR) = some r := hf
    cases hf
  | succ n4 ih =>
    intro x1 x2 μ3 H locs ls hf h hl
    rw [fX2_counted_L4] at hf
    refine lv_iload_n X.hx X.hb dX2_counted_4 rfl (lv_at hl 3 rfl) ?_
    refine lv_aload_n X.hx X.hb dX2_counted_5 rfl (lv_at hl 0 rfl) ?_
    refine r_getI X h (ci := 2) (k := 11) (C := RX2) (T := TX2) (N := 36) rfl in_X2 (by decide) q1070 rfl dX2_counted_6 hf (fun x5 hf => ?_)
    refine lv_icmp_ge (tgt := 51) X.hx X.hb dX2_counted_9 (by decide) (fun hc => ?_) (fun hc => ?_)
    · replace hf := gif_t hf hc
      clear hc
      exact hk51 _ _ _ _ _ hf h (lv_sub hl [0, 1, 2] rfl)
    · replace hf := gif_f hf hc
      clear hc
      refine lv_iload_n X.hx X.hb dX2_counted_12 rfl (lv_at hl 2 rfl) ?_
      refine lv_iload_n X.hx X.hb dX2_counted_13 rfl (lv_at hl 1 rfl) ?_
      refine lv_iconst (v := 5) X.hx X.hb dX2_counted_14 (by decide) ?_
      refine r_jn hf (fun j8 ej8 hf => ?_)
      have hj8 : ∀ (x6 : Int32) (μ7 : gM) (H : Heap) (locs : List Loc) (ls : Array Slot), j8 x6 μ7 = some r → gWd Γ A nz ad μ7 s.heap H locs → lv_has ls 4 [(0, .ref (ad b0)), (1, .int a1), (3, .int x2)] → W p l e ({ frames := 1, cells := 0, slots := 0, locals := 22 } : Room) s m args below meth c H locs 0 0 (MQ below (gQ0 Γ ad nz r A) args s 0 0 A) (F0 m 43 ls [.int x6, .int x1]) := by
        intro x6 μ7 H locs ls hf h hl
        rw [ej8] at hf
        refine lv_iadd X.hx X.hb dX2_counted_43 ?_
        refine r_nmI hf (fun x9 hf => ?_)
        refine lv_istore_n (lv' := [(2, .int x9), (0, .ref (ad b0)), (1, .int a1), (3, .int x2)]) X.hx X.hb dX2_counted_44 rfl hl (by decide) rfl (fun ls hl => ?_)
        refine r_nmk hf (fun x10 ex hf => ?_)
        refine lv_iinc (v := x10) (lv' := [(3, .int x10), (2, .int x9), (0, .ref (ad b0)), (1, .int a1)]) X.hx X.hb dX2_counted_45 hl (k := 3) rfl (by rw [ex]; rfl) (by decide) rfl (fun ls hl => ?_)
        clear ex
        refine lv_goto (tgt := 4) X.hx X.hb dX2_counted_48 (by decide) ?_
        exact ih _ _ _ _ _ _ hf h (lv_sub hl [2, 3, 1, 0] rfl)
      clear ej8
      refine r_jn hf (fun j12 ej12 hf => ?_)
      have hj12 : ∀  (μ11 : gM) (H : Heap) (locs : List Loc) (ls : Array Slot), j12  μ11 = some r → gWd Γ A nz ad μ11 s.heap H locs → lv_has ls 4 [(0, .ref (ad b0)), (1, .int a1), (3, .int x2)] → W p l e ({ frames := 1, cells := 0, slots := 0, locals := 22 } : Room) s m args below meth c H locs 0 0 (MQ below (gQ0 Γ ad nz r A) args s 0 0 A) (F0 m 42 ls [.int x1]) := by
        intro μ11 H locs ls hf h hl
        rw [ej12] at hf
        refine lv_iconst (v := 0) X.hx X.hb dX2_counted_42 (by decide) ?_
        exact hj8 _ _ _ _ _ hf h (lv_sub hl [0, 1, 2] rfl)
      clear ej12
      refine lv_icmp_ne (tgt := 42) X.hx X.hb dX2_counted_15 (by decide) (fun hc => ?_) (fun hc => ?_)
      · replace hf := gif_f hf hc
        clear hc
        exact hj12 _ _ _ _ hf h (lv_sub hl [0, 1, 3] rfl)
      · replace hf := gif_t hf hc
        clear hc
        refine lv_aload_n X.hx X.hb dX2_counted_18 rfl (lv_at hl 0 rfl) ?_
        refine r_getP X h (ci := 2) (k := 12) (C := RX2) (T := TX2) (N := 36) rfl in_X2 (by decide) q1071 rfl dX2_counted_19 hf (fun i13 hf => ?_)
        refine lv_iload_n X.hx X.hb dX2_counted_22 rfl (lv_at hl 3 rfl) ?_
        refine r_iald X h dX2_counted_23 hf (fun x14 hf => ?_)
        refine lv_iconst (v := 1) X.hx X.hb dX2_counted_24 (by decide) ?_
        refine r_jn hf (fun j16 ej16 hf => ?_)
        have hj16 : ∀  (μ15 : gM) (H : Heap) (locs : List Loc) (ls : Array Slot), j16  μ15 = some r → gWd Γ A nz ad μ15 s.heap H locs → lv_has ls 4 [(0, .ref (ad b0)), (1, .int a1), (3, .int x2)] → W p l e ({ frames := 1, cells := 0, slots := 0, locals := 22 } : Room) s m args below meth c H locs 0 0 (MQ below (gQ0 Γ ad nz r A) args s 0 0 A) (F0 m 38 ls [.int x1]) := by
          intro μ15 H locs ls hf h hl
          rw [ej16] at hf
          refine lv_iconst (v := 1) X.hx X.hb dX2_counted_38 (by decide) ?_
          refine lv_goto (tgt := 43) X.hx X.hb dX2_counted_39 (by decide) ?_
          exact hj8 _ _ _ _ _ hf h (lv_sub hl [0, 1, 2] rfl)
        clear ej16
        refine lv_icmp_eq (tgt := 38) X.hx X.hb dX2_counted_25 (by decide) (fun hc => ?_) (fun hc => ?_)
        · replace hf := gif_t hf hc
          clear hc
          exact hj16 _ _ _ _ hf h (lv_sub hl [0, 1, 3] rfl)
        · replace hf := gif_f hf hc
          clear hc
          refine lv_aload_n X.hx X.hb dX2_counted_28 rfl (lv_at hl 0 rfl) ?_
          refine r_getP X h (ci := 2) (k := 12) (C := RX2) (T := TX2) (N := 36) rfl in_X2 (by decide) q1071 rfl dX2_counted_29 hf (fun i17 hf => ?_)
          refine lv_iload_n X.hx X.hb dX2_counted_32 rfl (lv_at hl 3 rfl) ?_
          refine r_iald X h dX2_counted_33 hf (fun x18 hf => ?_)
          refine lv_iconst (v := 4) X.hx X.hb dX2_counted_34 (by decide) ?_
          refine lv_icmp_ne (tgt := 42) X.hx X.hb dX2_counted_35 (by decide) (fun hc => ?_) (fun hc => ?_)
          · replace hf := gif_f hf hc
            clear hc
            exact hj12 _ _ _ _ hf h (lv_sub hl [0, 1, 3] rfl)
          · replace hf := gif_t hf hc
            clear hc
            exact hj16 _ _ _ _ hf h (lv_sub hl [0, 1, 3] rfl)
def fX2_counted_L53 (b0 : Nat) (a1 : Int32) (kx88 : Int32 → gM → gR) : Nat → Int32 → Int32 → gM → gR
  | 0, _, _, _ => none
  | n25 + 1, x22, x23, μ24 => if 6 ≤ x23 then (kx88 x22 μ24) else (gjn (fun (x26 : Int32) (μ27 : gM) => gnm ((x22 + x26)) fun x29 => gnm (x23 + 1) fun x30 => fX2_counted_L53 b0 a1 kx88 n25 x29 x30 μ27) fun j28 => gjn (fun  (μ31 : gM) => j28 0 μ31) fun j32 => if a1 = 6 then (gP (gfld μ24 b0 2 5) fun i33 => gaI μ24 0 i33 x23 fun x34 => if x34 < 0 then (j32 μ24) else (j28 1 μ24)) else (j32 μ24))
set_option maxHeartbeats 4000000 in
theorem wX2_counted_L53 {p : Program} {e : Env} {s : State} {m : MethodId} {args : Array Value} {below : List Frame} {meth : Method} {c : Code} {Γ : gG} {A : Nat → Prop} {nz : Nat} {ad : Nat → Nat} {r : Option Value × gM} (l : Launch) (b0 : Nat) (a1 : Int32) (kx88 : Int32 → gM → gR) (X : gX p m c cX2_counted 4 s args "SandPianoModel" Γ A) (hr : meth.sig.returnType = (some .int)) (hlk : meth.locks = false) (hk88 : ∀ (x35 : Int32) (μ : gM) (H : Heap) (locs : List Loc) (ls : Array Slot), kx88 x35 μ = some r → gWd Γ A nz ad μ s.heap H locs → lv_has ls 4 [(0, .ref (ad b0)), (1, .int a1), (2, .int x35)] → W p l e ({ frames := 1, cells := 0, slots := 0, locals := 22 } : Room) s m args below meth c H locs 0 0 (MQ below (gQ0 Γ ad nz r A) args s 0 0 A) (F0 m 88 ls [])) : ∀ (n25 : Nat) (x22 : Int32) (x23 : Int32) (μ24 : gM) (H : Heap) (locs : List Loc) (ls : Array Slot), fX2_counted_L53 b0 a1 kx88 n25 x22 x23 μ24 = some r → gWd Γ A nz ad μ24 s.heap H locs → lv_has ls 4 [(0, .ref (ad b0)), (1, .int a1), (2, .int x22), (3, .int x23)] → W p l e ({ frames := 1, cells := 0, slots := 0, locals := 22 } : Room) s m args below meth c H locs 0 0 (MQ below (gQ0 Γ ad nz r A) args s 0 0 A) (F0 m 53 ls []) := by
  intro n25
  induction n25 with
  | zero =>
    intro x22 x23 μ24 H locs ls hf h hl
    have hf : (none : gR) = some r := hf
    cases hf
  | succ n25 ih =>
    intro x22 x23 μ24 H locs ls hf h hl
    rw [fX2_counted_L53] at hf
    refine lv_iload_n X.hx X.hb dX2_counted_53 rfl (lv_at hl 3 rfl) ?_
    refine lv_bipush (v := 6) X.hx X.hb dX2_counted_54 (by decide) ?_
    refine lv_icmp_ge (tgt := 88) X.hx X.hb dX2_counted_56 (by decide) (fun hc => ?_) (fun hc => ?_)
    · replace hf := gif_t hf hc
      clear hc
      exact hk88 _ _ _ _ _ hf h (lv_sub hl [0, 1, 2] rfl)
    · replace hf := gif_f hf hc
      clear hc
      refine lv_iload_n X.hx X.hb dX2_counted_59 rfl (lv_at hl 2 rfl) ?_
      refine lv_iload_n X.hx X.hb dX2_counted_60 rfl (lv_at hl 1 rfl) ?_
      refine lv_bipush (v := 6) X.hx X.hb dX2_counted_61 (by decide) ?_
      refine r_jn hf (fun j28 ej28 hf => ?_)
      have hj28 : ∀ (x26 : Int32) (μ27 : gM) (H : Heap) (locs : List Loc) (ls : Array Slot), j28 x26 μ27 = some r → gWd Γ A nz ad μ27 s.heap H locs → lv_has ls 4 [(0, .ref (ad b0)), (1, .int a1), (3, .int x23)] → W p l e ({ frames := 1, cells := 0, slots := 0, locals := 22 } : Room) s m args below meth c H locs 0 0 (MQ below (gQ0 Γ ad nz r A) args s 0 0 A) (F0 m 80 ls [.int x26, .int x22]) := by
        intro x26 μ27 H locs ls hf h hl
        rw [ej28] at hf
        refine lv_iadd X.hx X.hb dX2_counted_80 ?_
        refine r_nmI hf (fun x29 hf => ?_)
        refine lv_istore_n (lv' := [(2, .int x29), (0, .ref (ad b0)), (1, .int a1), (3, .int x23)]) X.hx X.hb dX2_counted_81 rfl hl (by decide) rfl (fun ls hl => ?_)
        refine r_nmk hf (fun x30 ex hf => ?_)
        refine lv_iinc (v := x30) (lv' := [(3, .int x30), (2, .int x29), (0, .ref (ad b0)), (1, .int a1)]) X.hx X.hb dX2_counted_82 hl (k := 3) rfl (by rw [ex]; rfl) (by decide) rfl (fun ls hl => ?_)
        clear ex
        refine lv_goto (tgt := 53) X.hx X.hb dX2_counted_85 (by decide) ?_
        exact ih _ _ _ _ _ _ hf h (lv_sub hl [2, 3, 1, 0] rfl)
      clear ej28
      refine r_jn hf (fun j32 ej32 hf => ?_)
      have hj32 : ∀  (μ31 : gM) (H : Heap) (locs : List Loc) (ls : Array Slot), j32  μ31 = some r → gWd Γ A nz ad μ31 s.heap H locs → lv_has ls 4 [(0, .ref (ad b0)), (1, .int a1), (3, .int x23)] → W p l e ({ frames := 1, cells := 0, slots := 0, locals := 22 } : Room) s m args below meth c H locs 0 0 (MQ below (gQ0 Γ ad nz r A) args s 0 0 A) (F0 m 79 ls [.int x22]) := by
        intro μ31 H locs ls hf h hl
        rw [ej32] at hf
        refine lv_iconst (v := 0) X.hx X.hb dX2_counted_79 (by decide) ?_
        exact hj28 _ _ _ _ _ hf h (lv_sub hl [0, 1, 2] rfl)
      clear ej32
      refine lv_icmp_ne (tgt := 79) X.hx X.hb dX2_counted_63 (by decide) (fun hc => ?_) (fun hc => ?_)
      · replace hf := gif_f hf hc
        clear hc
        exact hj32 _ _ _ _ hf h (lv_sub hl [0, 1, 3] rfl)
      · replace hf := gif_t hf hc
        clear hc
        refine lv_aload_n X.hx X.hb dX2_counted_66 rfl (lv_at hl 0 rfl) ?_
        refine r_getP X h (ci := 2) (k := 5) (C := RX2) (T := TX2) (N := 36) rfl in_X2 (by decide) q1064 rfl dX2_counted_67 hf (fun i33 hf => ?_)
        refine lv_iload_n X.hx X.hb dX2_counted_70 rfl (lv_at hl 3 rfl) ?_
        refine r_iald X h dX2_counted_71 hf (fun x34 hf => ?_)
        refine lv_if_lt (tgt := 79) X.hx X.hb dX2_counted_72 (by decide) (fun hc => ?_) (fun hc => ?_)
        · replace hf := gif_t hf hc
          clear hc
          exact hj32 _ _ _ _ hf h (lv_sub hl [0, 1, 3] rfl)
        · replace hf := gif_f hf hc
          clear hc
          refine lv_iconst (v := 1) X.hx X.hb dX2_counted_75 (by decide) ?_
          refine lv_goto (tgt := 80) X.hx X.hb dX2_counted_76 (by decide) ?_
          exact hj28 _ _ _ _ _ hf h (lv_sub hl [0, 1, 3] rfl)
def fX2_counted_L90 (b0 : Nat) (a1 : Int32) (kx124 : Int32 → gM → gR) : Nat → Int32 → Int32 → gM → gR
  | 0, _, _, _ => none
  | n41 + 1, x38, x39, μ40 => if 4 ≤ x39 then (kx124 x38 μ40) else (gjn (fun (x42 : Int32) (μ43 : gM) => gnm ((x38 + x42)) fun x45 => gnm (x39 + 1) fun x46 => fX2_counted_L90 b0 a1 kx124 n41 x45 x46 μ43) fun j44 => gjn (fun  (μ47 : gM) => j44 0 μ47) fun j48 => if a1 = 7 then (gP (gfld μ40 b0 2 8) fun i49 => gaI μ40 0 i49 x39 fun x50 => if x50 < 0 then (j48 μ40) else (j44 1 μ40)) else (j48 μ40))
set_option maxHeartbeats 4000000 in
theorem wX2_counted_L90 {p : Program} {e : Env} {s : State} {m : MethodId} {args : Array Value} {below : List Frame} {meth : Method} {c : Code} {Γ : gG} {A : Nat → Prop} {nz : Nat} {ad : Nat → Nat} {r : Option Value × gM} (l : Launch) (b0 : Nat) (a1 : Int32) (kx124 : Int32 → gM → gR) (X : gX p m c cX2_counted 4 s args "SandPianoModel" Γ A) (hr : meth.sig.returnType = (some .int)) (hlk : meth.locks = false) (hk124 : ∀ (x51 : Int32) (μ : gM) (H : Heap) (locs : List Loc) (ls : Array Slot), kx124 x51 μ = some r → gWd Γ A nz ad μ s.heap H locs → lv_has ls 4 [(0, .ref (ad b0)), (1, .int a1), (2, .int x51)] → W p l e ({ frames := 1, cells := 0, slots := 0, locals := 22 } : Room) s m args below meth c H locs 0 0 (MQ below (gQ0 Γ ad nz r A) args s 0 0 A) (F0 m 124 ls [])) : ∀ (n41 : Nat) (x38 : Int32) (x39 : Int32) (μ40 : gM) (H : Heap) (locs : List Loc) (ls : Array Slot), fX2_counted_L90 b0 a1 kx124 n41 x38 x39 μ40 = some r → gWd Γ A nz ad μ40 s.heap H locs → lv_has ls 4 [(0, .ref (ad b0)), (1, .int a1), (2, .int x38), (3, .int x39)] → W p l e ({ frames := 1, cells := 0, slots := 0, locals := 22 } : Room) s m args below meth c H locs 0 0 (MQ below (gQ0 Γ ad nz r A) args s 0 0 A) (F0 m 90 ls []) := by
  intro n41
  induction n41 with
  | zero =>
    intro x38 x39 μ40 H locs ls hf h hl
    have hf : (none : gR) = some r := hf
    cases hf
  | succ n41 ih =>
    intro x38 x39 μ40 H locs ls hf h hl
    rw [fX2_counted_L90] at hf
    refine lv_iload_n X.hx X.hb dX2_counted_90 rfl (lv_at hl 3 rfl) ?_
    refine lv_iconst (v := 4) X.hx X.hb dX2_counted_91 (by decide) ?_
    refine lv_icmp_ge (tgt := 124) X.hx X.hb dX2_counted_92 (by decide) (fun hc => ?_) (fun hc => ?_)
    · replace hf := gif_t hf hc
      clear hc
      exact hk124 _ _ _ _ _ hf h (lv_sub hl [0, 1, 2] rfl)
    · replace hf := gif_f hf hc
      clear hc
      refine lv_iload_n X.hx X.hb dX2_counted_95 rfl (lv_at hl 2 rfl) ?_
      refine lv_iload_n X.hx X.hb dX2_counted_96 rfl (lv_at hl 1 rfl) ?_
      refine lv_bipush (v := 7) X.hx X.hb dX2_counted_97 (by decide) ?_
      refine r_jn hf (fun j44 ej44 hf => ?_)
      have hj44 : ∀ (x42 : Int32) (μ43 : gM) (H : Heap) (locs : List Loc) (ls : Array Slot), j44 x42 μ43 = some r → gWd Γ A nz ad μ43 s.heap H locs → lv_has ls 4 [(0, .ref (ad b0)), (1, .int a1), (3, .int x39)] → W p l e ({ frames := 1, cells := 0, slots := 0, locals := 22 } : Room) s m args below meth c H locs 0 0 (MQ below (gQ0 Γ ad nz r A) args s 0 0 A) (F0 m 116 ls [.int x42, .int x38]) := by
        intro x42 μ43 H locs ls hf h hl
        rw [ej44] at hf
        refine lv_iadd X.hx X.hb dX2_counted_116 ?_
        refine r_nmI hf (fun x45 hf => ?_)
        refine lv_istore_n (lv' := [(2, .int x45), (0, .ref (ad b0)), (1, .int a1), (3, .int x39)]) X.hx X.hb dX2_counted_117 rfl hl (by decide) rfl (fun ls hl => ?_)
        refine r_nmk hf (fun x46 ex hf => ?_)
        refine lv_iinc (v := x46) (lv' := [(3, .int x46), (2, .int x45), (0, .ref (ad b0)), (1, .int a1)]) X.hx X.hb dX2_counted_118 hl (k := 3) rfl (by rw [ex]; rfl) (by decide) rfl (fun ls hl => ?_)
        clear ex
        refine lv_goto (tgt := 90) X.hx X.hb dX2_counted_121 (by decide) ?_
        exact ih _ _ _ _ _ _ hf h (lv_sub hl [2, 3, 1, 0] rfl)
      clear ej44
      refine r_jn hf (fun j48 ej48 hf => ?_)
      have hj48 : ∀  (μ47 : gM) (H : Heap) (locs : List Loc) (ls : Array Slot), j48  μ47 = some r → gWd Γ A nz ad μ47 s.heap H locs → lv_has ls 4 [(0, .ref (ad b0)), (1, .int a1), (3, .int x39)] → W p l e ({ frames := 1, cells := 0, slots := 0, locals := 22 } : Room) s m args below meth c H locs 0 0 (MQ below (gQ0 Γ ad nz r A) args s 0 0 A) (F0 m 115 ls [.int x38]) := by
        intro μ47 H locs ls hf h hl
        rw [ej48] at hf
        refine lv_iconst (v := 0) X.hx X.hb dX2_counted_115 (by decide) ?_
        exact hj44 _ _ _ _ _ hf h (lv_sub hl [0, 1, 2] rfl)
      clear ej48
      refine lv_icmp_ne (tgt := 115) X.hx X.hb dX2_counted_99 (by decide) (fun hc => ?_) (fun hc => ?_)
      · replace hf := gif_f hf hc
        clear hc
        exact hj48 _ _ _ _ hf h (lv_sub hl [0, 1, 3] rfl)
      · replace hf := gif_t hf hc
        clear hc
        refine lv_aload_n X.hx X.hb dX2_counted_102 rfl (lv_at hl 0 rfl) ?_
        refine r_getP X h (ci := 2) (k := 8) (C := RX2) (T := TX2) (N := 36) rfl in_X2 (by decide) q1067 rfl dX2_counted_103 hf (fun i49 hf => ?_)
        refine lv_iload_n X.hx X.hb dX2_counted_106 rfl (lv_at hl 3 rfl) ?_
        refine r_iald X h dX2_counted_107 hf (fun x50 hf => ?_)
        refine lv_if_lt (tgt := 115) X.hx X.hb dX2_counted_108 (by decide) (fun hc => ?_) (fun hc => ?_)
        · replace hf := gif_t hf hc
          clear hc
          exact hj48 _ _ _ _ hf h (lv_sub hl [0, 1, 3] rfl)
        · replace hf := gif_f hf hc
          clear hc
          refine lv_iconst (v := 1) X.hx X.hb dX2_counted_111 (by decide) ?_
          refine lv_goto (tgt := 116) X.hx X.hb dX2_counted_112 (by decide) ?_
          exact hj44 _ _ _ _ _ hf h (lv_sub hl [0, 1, 3] rfl)
def fX2_counted_L126 (b0 : Nat) (a1 : Int32) (kx160 : Int32 → gM → gR) : Nat → Int32 → Int32 → gM → gR
  | 0, _, _, _ => none
  | n57 + 1, x54, x55, μ56 => if 3 ≤ x55 then (kx160 x54 μ56) else (gjn (fun (x58 : Int32) (μ59 : gM) => gnm ((x54 + x58)) fun x61 => gnm (x55 + 1) fun x62 => fX2_counted_L126 b0 a1 kx160 n57 x61 x62 μ59) fun j60 => gjn (fun  (μ63 : gM) => j60 0 μ63) fun j64 => if a1 = 8 then (gP (gfld μ56 b0 2 23) fun i65 => gaI μ56 2 i65 x55 fun x66 => if x66 = 0 then (j64 μ56) else (j60 1 μ56)) else (j64 μ56))
set_option maxHeartbeats 4000000 in
theorem wX2_counted_L126 {p : Program} {e : Env} {s : State} {m : MethodId} {args : Array Value} {below : List Frame} {meth : Method} {c : Code} {Γ : gG} {A : Nat → Prop} {nz : Nat} {ad : Nat → Nat} {r : Option Value × gM} (l : Launch) (b0 : Nat) (a1 : Int32) (kx160 : Int32 → gM → gR) (X : gX p m c cX2_counted 4 s args "SandPianoModel" Γ A) (hr : meth.sig.returnType = (some .int)) (hlk : meth.locks = false) (hk160 : ∀ (x67 : Int32) (μ : gM) (H : Heap) (locs : List Loc) (ls : Array Slot), kx160 x67 μ = some r → gWd Γ A nz ad μ s.heap H locs → lv_has ls 4 [(0, .ref (ad b0)), (1, .int a1), (2, .int x67)] → W p l e ({ frames := 1, cells := 0, slots := 0, locals := 22 } : Room) s m args below meth c H locs 0 0 (MQ below (gQ0 Γ ad nz r A) args s 0 0 A) (F0 m 160 ls [])) : ∀ (n57 : Nat) (x54 : Int32) (x55 : Int32) (μ56 : gM) (H : Heap) (locs : List Loc) (ls : Array Slot), fX2_counted_L126 b0 a1 kx160 n57 x54 x55 μ56 = some r → gWd Γ A nz ad μ56 s.heap H locs → lv_has ls 4 [(0, .ref (ad b0)), (1, .int a1), (2, .int x54), (3, .int x55)] → W p l e ({ frames := 1, cells := 0, slots := 0, locals := 22 } : Room) s m args below meth c H locs 0 0 (MQ below (gQ0 Γ ad nz r A) args s 0 0 A) (F0 m 126 ls []) := by
  intro n57
  induction n57 with
  | zero =>
    intro x54 x55 μ56 H locs ls hf h hl
    have hf : (none : gR) = some r := hf
    cases hf
  | succ n57 ih =>
    intro x54 x55 μ56 H locs ls hf h hl
    rw [fX2_counted_L126] at hf
    refine lv_iload_n X.hx X.hb dX2_counted_126 rfl (lv_at hl 3 rfl) ?_
    refine lv_iconst (v := 3) X.hx X.hb dX2_counted_127 (by decide) ?_
    refine lv_icmp_ge (tgt := 160) X.hx X.hb dX2_counted_128 (by decide) (fun hc => ?_) (fun hc => ?_)
    · replace hf := gif_t hf hc
      clear hc
      exact hk160 _ _ _ _ _ hf h (lv_sub hl [0, 1, 2] rfl)
    · replace hf := gif_f hf hc
      clear hc
      refine lv_iload_n X.hx X.hb dX2_counted_131 rfl (lv_at hl 2 rfl) ?_
      refine lv_iload_n X.hx X.hb dX2_counted_132 rfl (lv_at hl 1 rfl) ?_
      refine lv_bipush (v := 8) X.hx X.hb dX2_counted_133 (by decide) ?_
      refine r_jn hf (fun j60 ej60 hf => ?_)
      have hj60 : ∀ (x58 : Int32) (μ59 : gM) (H : Heap) (locs : List Loc) (ls : Array Slot), j60 x58 μ59 = some r → gWd Γ A nz ad μ59 s.heap H locs → lv_has ls 4 [(0, .ref (ad b0)), (1, .int a1), (3, .int x55)] → W p l e ({ frames := 1, cells := 0, slots := 0, locals := 22 } : Room) s m args below meth c H locs 0 0 (MQ below (gQ0 Γ ad nz r A) args s 0 0 A) (F0 m 152 ls [.int x58, .int x54]) := by
        intro x58 μ59 H locs ls hf h hl
        rw [ej60] at hf
        refine lv_iadd X.hx X.hb dX2_counted_152 ?_
        refine r_nmI hf (fun x61 hf => ?_)
        refine lv_istore_n (lv' := [(2, .int x61), (0, .ref (ad b0)), (1, .int a1), (3, .int x55)]) X.hx X.hb dX2_counted_153 rfl hl (by decide) rfl (fun ls hl => ?_)
        refine r_nmk hf (fun x62 ex hf => ?_)
        refine lv_iinc (v := x62) (lv' := [(3, .int x62), (2, .int x61), (0, .ref (ad b0)), (1, .int a1)]) X.hx X.hb dX2_counted_154 hl (k := 3) rfl (by rw [ex]; rfl) (by decide) rfl (fun ls hl => ?_)
        clear ex
        refine lv_goto (tgt := 126) X.hx X.hb dX2_counted_157 (by decide) ?_
        exact ih _ _ _ _ _ _ hf h (lv_sub hl [2, 3, 1, 0] rfl)
      clear ej60
      refine r_jn hf (fun j64 ej64 hf => ?_)
      have hj64 : ∀  (μ63 : gM) (H : Heap) (locs : List Loc) (ls : Array Slot), j64  μ63 = some r → gWd Γ A nz ad μ63 s.heap H locs → lv_has ls 4 [(0, .ref (ad b0)), (1, .int a1), (3, .int x55)] → W p l e ({ frames := 1, cells := 0, slots := 0, locals := 22 } : Room) s m args below meth c H locs 0 0 (MQ below (gQ0 Γ ad nz r A) args s 0 0 A) (F0 m 151 ls [.int x54]) := by
        intro μ63 H locs ls hf h hl
        rw [ej64] at hf
        refine lv_iconst (v := 0) X.hx X.hb dX2_counted_151 (by decide) ?_
        exact hj60 _ _ _ _ _ hf h (lv_sub hl [0, 1, 2] rfl)
      clear ej64
      refine lv_icmp_ne (tgt := 151) X.hx X.hb dX2_counted_135 (by decide) (fun hc => ?_) (fun hc => ?_)
      · replace hf := gif_f hf hc
        clear hc
        exact hj64 _ _ _ _ hf h (lv_sub hl [0, 1, 3] rfl)
      · replace hf := gif_t hf hc
        clear hc
        refine lv_aload_n X.hx X.hb dX2_counted_138 rfl (lv_at hl 0 rfl) ?_
        refine r_getP X h (ci := 2) (k := 23) (C := RX2) (T := TX2) (N := 36) rfl in_X2 (by decide) q1082 rfl dX2_counted_139 hf (fun i65 hf => ?_)
        refine lv_iload_n X.hx X.hb dX2_counted_142 rfl (lv_at hl 3 rfl) ?_
        refine r_zald X h dX2_counted_143 hf (fun x66 hf => ?_)
        refine lv_if_eq (tgt := 151) X.hx X.hb dX2_counted_144 (by decide) (fun hc => ?_) (fun hc => ?_)
        · replace hf := gif_t hf hc
          clear hc
          exact hj64 _ _ _ _ hf h (lv_sub hl [0, 1, 3] rfl)
        · replace hf := gif_f hf hc
          clear hc
          refine lv_iconst (v := 1) X.hx X.hb dX2_counted_147 (by decide) ?_
          refine lv_goto (tgt := 152) X.hx X.hb dX2_counted_148 (by decide) ?_
          exact hj60 _ _ _ _ _ hf h (lv_sub hl [0, 1, 3] rfl)
def fX2_counted (μ0 : gM) (b0 : Nat) (a1 : Int32) : gR := fX2_counted_L4 b0 a1 (fun (x20 : Int32) (μ21 : gM) => fX2_counted_L53 b0 a1 (fun (x36 : Int32) (μ37 : gM) => fX2_counted_L90 b0 a1 (fun (x52 : Int32) (μ53 : gM) => fX2_counted_L126 b0 a1 (fun (x68 : Int32) (μ69 : gM) => if a1 = 0 then (gI (gfld μ69 b0 2 11) fun x70 => some (some (.int x70), μ69)) else if a1 = 1 then (gI (gfld μ69 b0 2 21) fun x71 => some (some (.int x71), μ69)) else if a1 = 2 then (gis μ69 b0 2 <| cI (fX2_v μ69 b0 0 6) fun x72 μ73 => some (some (.int x72), μ73)) else if a1 = 3 then (gis μ69 b0 2 <| cI (fX2_v μ69 b0 0 7) fun x74 μ75 => some (some (.int x74), μ75)) else if a1 = 4 then (gis μ69 b0 2 <| cI (fX2_v μ69 b0 0 8) fun x76 μ77 => some (some (.int x76), μ77)) else (some (some (.int x68), μ69))) 10000 x52 0 μ53) 10000 x36 0 μ37) 10000 x20 0 μ21) 10000 0 0 μ0
set_option maxHeartbeats 4000000 in
theorem wX2_counted (l : Launch) (Γ : gG) (ad : Nat → Nat) (μ0 : gM) (b0 : Nat) (a1 : Int32) (r : Option Value × gM) (hf : fX2_counted μ0 b0 a1 = some r) : gMt0 l Γ yX2_counted (ws_ yX2_counted cX2_counted 4 (some .int)) ({ frames := 1, cells := 0, slots := 0, locals := 22 } : Room) 0 0 ad μ0 [.ref (ad b0), .int a1] r := by
  intro sz
  refine g_start (maxL := 4) (ret := (some .int)) (by decide) rfl g_all (Nat.le_of_ble_eq_true rfl) ?_
  intro p e s m below meth c ls hr hlk hnm X h hl
  generalize gA ad μ0 sz = A at X h ⊢
  generalize ([.ref (ad b0), .int a1] : List Value).toArray = args at X ⊢
  have X : gX p m c cX2_counted 4 s args "SandPianoModel" Γ A := X
  have hl : lv_has ls 4 [(0, .ref (ad b0)), (1, .int a1)] := hl
  show W p l e ({ frames := 1, cells := 0, slots := 0, locals := 22 } : Room) s m args below meth c s.heap [] 0 0 (MQ below (gQ0 Γ ad μ0.1 r A) args s 0 0 A) (F0 m 0 ls [])
  unfold fX2_counted at hf
  refine lv_iconst (v := 0) X.hx X.hb dX2_counted_0 (by decide) ?_
  refine lv_istore_n (lv' := [(2, .int 0), (0, .ref (ad b0)), (1, .int a1)]) X.hx X.hb dX2_counted_1 rfl hl (by decide) rfl (fun ls hl => ?_)
  refine lv_iconst (v := 0) X.hx X.hb dX2_counted_2 (by decide) ?_
  refine lv_istore_n (lv' := [(3, .int 0), (2, .int 0), (0, .ref (ad b0)), (1, .int a1)]) X.hx X.hb dX2_counted_3 rfl hl (by decide) rfl (fun ls hl => ?_)
  refine wX2_counted_L4 l b0 a1 _ X hr hlk (fun x20 μ21 H locs ls hf h hl => ?_) 10000 _ _ _ _ _ _ hf h (lv_sub hl [2, 3, 1, 0] rfl)
  refine lv_iconst (v := 0) X.hx X.hb dX2_counted_51 (by decide) ?_
  refine lv_istore_n (lv' := [(3, .int 0), (0, .ref (ad b0)), (1, .int a1), (2, .int x20)]) X.hx X.hb dX2_counted_52 rfl hl (by decide) rfl (fun ls hl => ?_)
  refine wX2_counted_L53 l b0 a1 _ X hr hlk (fun x36 μ37 H locs ls hf h hl => ?_) 10000 _ _ _ _ _ _ hf h (lv_sub hl [1, 2, 3, 0] rfl)
  refine lv_iconst (v := 0) X.hx X.hb dX2_counted_88 (by decide) ?_
  refine lv_istore_n (lv' := [(3, .int 0), (0, .ref (ad b0)), (1, .int a1), (2, .int x36)]) X.hx X.hb dX2_counted_89 rfl hl (by decide) rfl (fun ls hl => ?_)
  refine wX2_counted_L90 l b0 a1 _ X hr hlk (fun x52 μ53 H locs ls hf h hl => ?_) 10000 _ _ _ _ _ _ hf h (lv_sub hl [1, 2, 3, 0] rfl)
  refine lv_iconst (v := 0) X.hx X.hb dX2_counted_124 (by decide) ?_
  refine lv_istore_n (lv' := [(3, .int 0), (0, .ref (ad b0)), (1, .int a1), (2, .int x52)]) X.hx X.hb dX2_counted_125 rfl hl (by decide) rfl (fun ls hl => ?_)
  refine wX2_counted_L126 l b0 a1 _ X hr hlk (fun x68 μ69 H locs ls hf h hl => ?_) 10000 _ _ _ _ _ _ hf h (lv_sub hl [1, 2, 3, 0] rfl)
  refine lv_iload_n X.hx X.hb dX2_counted_160 rfl (lv_at hl 1 rfl) ?_
  by_cases hc0 : a1 = 0
  · replace hf := gif_t hf hc0
    refine lv_tableIn (tgt := 196) X.hx X.hb dX2_counted_161 (by rw [hc0]; decide) (by rw [hc0]; decide) (by rw [hc0]; rfl) (by decide) ?_
    clear hc0
    refine lv_aload_n X.hx X.hb dX2_counted_196 rfl (lv_at hl 0 rfl) ?_
    refine r_getI X h (ci := 2) (k := 11) (C := RX2) (T := TX2) (N := 36) rfl in_X2 (by decide) q1070 rfl dX2_counted_197 hf (fun x70 hf => ?_)
    exact r_ri X h hr hlk (Nat.le_of_ble_eq_true rfl) (Nat.le_of_ble_eq_true rfl) dX2_counted_200 hf
  replace hf := gif_f hf hc0
  by_cases hc1 : a1 = 1
  · replace hf := gif_t hf hc1
    refine lv_tableIn (tgt := 201) X.hx X.hb dX2_counted_161 (by rw [hc1]; decide) (by rw [hc1]; decide) (by rw [hc1]; rfl) (by decide) ?_
    clear hc1
    refine lv_aload_n X.hx X.hb dX2_counted_201 rfl (lv_at hl 0 rfl) ?_
    refine r_getI X h (ci := 2) (k := 21) (C := RX2) (T := TX2) (N := 36) rfl in_X2 (by decide) q1080 rfl dX2_counted_202 hf (fun x71 hf => ?_)
    exact r_ri X h hr hlk (Nat.le_of_ble_eq_true rfl) (Nat.le_of_ble_eq_true rfl) dX2_counted_205 hf
  replace hf := gif_f hf hc1
  by_cases hc2 : a1 = 2
  · replace hf := gif_t hf hc2
    refine lv_tableIn (tgt := 206) X.hx X.hb dX2_counted_161 (by rw [hc2]; decide) (by rw [hc2]; decide) (by rw [hc2]; rfl) (by decide) ?_
    clear hc2
    refine lv_aload_n X.hx X.hb dX2_counted_206 rfl (lv_at hl 0 rfl) ?_
    refine lv_iconst (v := 0) X.hx X.hb dX2_counted_207 (by decide) ?_
    refine lv_bipush (v := 6) X.hx X.hb dX2_counted_208 (by decide) ?_
    refine r_cVI (As := [.int 0, .int 6]) (rest := []) (C := RX2) (T := TX2) (N := 36) X h hf (fun res hres => wX2_v l Γ ad _ b0 0 6 res hres) rfl (cwV 2 X.hts (lw_V q1289 q1291 qs49 q84 q1292) rfl rfl rfl (by decide +kernel) ⟨Nat.le_of_ble_eq_true rfl, Nat.le_of_ble_eq_true rfl⟩) rfl ⟨hl.1, Nat.le_of_ble_eq_true rfl, Nat.le_of_ble_eq_true rfl, Nat.le_of_ble_eq_true rfl⟩ rfl dX2_counted_210 (fun x72 μ73 H locs hf h => ?_)
    exact r_ri X h hr hlk (Nat.le_of_ble_eq_true rfl) (Nat.le_of_ble_eq_true rfl) dX2_counted_213 hf
  replace hf := gif_f hf hc2
  by_cases hc3 : a1 = 3
  · replace hf := gif_t hf hc3
    refine lv_tableIn (tgt := 214) X.hx X.hb dX2_counted_161 (by rw [hc3]; decide) (by rw [hc3]; decide) (by rw [hc3]; rfl) (by decide) ?_
    clear hc3
    refine lv_aload_n X.hx X.hb dX2_counted_214 rfl (lv_at hl 0 rfl) ?_
    refine lv_iconst (v := 0) X.hx X.hb dX2_counted_215 (by decide) ?_
    refine lv_bipush (v := 7) X.hx X.hb dX2_counted_216 (by decide) ?_
    refine r_cVI (As := [.int 0, .int 7]) (rest := []) (C := RX2) (T := TX2) (N := 36) X h hf (fun res hres => wX2_v l Γ ad _ b0 0 7 res hres) rfl (cwV 2 X.hts (lw_V q1289 q1291 qs49 q84 q1292) rfl rfl rfl (by decide +kernel) ⟨Nat.le_of_ble_eq_true rfl, Nat.le_of_ble_eq_true rfl⟩) rfl ⟨hl.1, Nat.le_of_ble_eq_true rfl, Nat.le_of_ble_eq_true rfl, Nat.le_of_ble_eq_true rfl⟩ rfl dX2_counted_218 (fun x74 μ75 H locs hf h => ?_)
    exact r_ri X h hr hlk (Nat.le_of_ble_eq_true rfl) (Nat.le_of_ble_eq_true rfl) dX2_counted_221 hf
  replace hf := gif_f hf hc3
  by_cases hc4 : a1 = 4
  · replace hf := gif_t hf hc4
    refine lv_tableIn (tgt := 222) X.hx X.hb dX2_counted_161 (by rw [hc4]; decide) (by rw [hc4]; decide) (by rw [hc4]; rfl) (by decide) ?_
    clear hc4
    refine lv_aload_n X.hx X.hb dX2_counted_222 rfl (lv_at hl 0 rfl) ?_
    refine lv_iconst (v := 0) X.hx X.hb dX2_counted_223 (by decide) ?_
    refine lv_bipush (v := 8) X.hx X.hb dX2_counted_224 (by decide) ?_
    refine r_cVI (As := [.int 0, .int 8]) (rest := []) (C := RX2) (T := TX2) (N := 36) X h hf (fun res hres => wX2_v l Γ ad _ b0 0 8 res hres) rfl (cwV 2 X.hts (lw_V q1289 q1291 qs49 q84 q1292) rfl rfl rfl (by decide +kernel) ⟨Nat.le_of_ble_eq_true rfl, Nat.le_of_ble_eq_true rfl⟩) rfl ⟨hl.1, Nat.le_of_ble_eq_true rfl, Nat.le_of_ble_eq_true rfl, Nat.le_of_ble_eq_true rfl⟩ rfl dX2_counted_226 (fun x76 μ77 H locs hf h => ?_)
    exact r_ri X h hr hlk (Nat.le_of_ble_eq_true rfl) (Nat.le_of_ble_eq_true rfl) dX2_counted_229 hf
  replace hf := gif_f hf hc4
  have hn0 : (a1 : Int32).toInt ≠ 0 := fun h9 => hc0 (Int32.toInt_inj.mp (h9.trans (by decide)))
  have hn1 : (a1 : Int32).toInt ≠ 1 := fun h9 => hc1 (Int32.toInt_inj.mp (h9.trans (by decide)))
  have hn2 : (a1 : Int32).toInt ≠ 2 := fun h9 => hc2 (Int32.toInt_inj.mp (h9.trans (by decide)))
  have hn3 : (a1 : Int32).toInt ≠ 3 := fun h9 => hc3 (Int32.toInt_inj.mp (h9.trans (by decide)))
  have hn4 : (a1 : Int32).toInt ≠ 4 := fun h9 => hc4 (Int32.toInt_inj.mp (h9.trans (by decide)))
  refine lv_tableOut (tgt := 230) X.hx X.hb dX2_counted_161 (by omega) (by decide) ?_
  clear hn0 hn1 hn2 hn3 hn4 hc0 hc1 hc2 hc3 hc4
  refine lv_iload_n X.hx X.hb dX2_counted_230 rfl (lv_at hl 2 rfl) ?_
  exact r_ri X h hr hlk (Nat.le_of_ble_eq_true rfl) (Nat.le_of_ble_eq_true rfl) dX2_counted_231 hf
