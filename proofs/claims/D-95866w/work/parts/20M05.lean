set_option maxRecDepth 100000
/-! X2_digsOn -/
def fX2_digsOn_L54 (rec : gM → Nat → Int32 → Int32 → Int32 → gR) (b0 : Nat) (a1 : Int32) (a2 : Int32) (a3 : Int32) : Nat → Int32 → gM → gR
  | 0, _, _ => none
  | n6 + 1, x4, μ5 => gI (gfld μ5 b0 2 11) fun x7 => if x7 ≤ x4 then (rZ 0 μ5) else (gis μ5 b0 2 <| cV (fX2_copyTo μ5 b0 a2 (a2 + 1)) fun μ8 => gI (gfld μ8 b0 2 10) fun x9 => gis μ8 b0 2 <| cI (fX2_moves μ8 b0 (a2 + 1) x4 6 x9) fun x10 μ11 => gP (gfld μ11 b0 2 28) fun i12 => gsI μ11 0 i12 a2 x4 fun μ13 => gis μ13 b0 2 <| cI (rec μ13 b0 a1 (a2 + 1) a3) fun x14 μ15 => if x14 = 0 then (gnm (x4 + 1) fun x16 => fX2_digsOn_L54 rec b0 a1 a2 a3 n6 x16 μ15) else (rZ 1 μ15))
set_option maxHeartbeats 4000000 in
theorem wX2_digsOn_L54 {p : Program} {e : Env} {s : State} {m : MethodId} {args : Array Value} {below : List Frame} {meth : Method} {c : Code} {Γ : gG} {A : Nat → Prop} {nz : Nat} {ad : Nat → Nat} {r : Option Value × gM} (l : Launch) (dd : Nat) (rec : gM → Nat → Int32 → Int32 → Int32 → gR) (b0 : Nat) (a1 : Int32) (a2 : Int32) (a3 : Int32) (X : gX p m c cX2_digsOn 5 s args "SandPianoModel" Γ A) (hr : meth.sig.returnType = (some .boolean)) (hlk : meth.locks = false) (hrec : ∀ (ad : Nat → Nat) (μ : gM) (b0 : Nat) (a1 : Int32) (a2 : Int32) (a3 : Int32) (r : Option Value × gM), rec μ b0 a1 a2 a3 = some r → gMt0 l Γ yX2_digsOn (ws_ yX2_digsOn cX2_digsOn 5 (some .boolean)) ({ frames := 4 + dd, cells := 0, slots := 0, locals := 93 + dd * 24 } : Room) 0 0 ad μ [.ref (ad b0), .int a1, .int a2, .int a3] r) : ∀ (n6 : Nat) (x4 : Int32) (μ5 : gM) (H : Heap) (locs : List Loc) (ls : Array Slot), fX2_digsOn_L54 rec b0 a1 a2 a3 n6 x4 μ5 = some r → gWd Γ A nz ad μ5 s.heap H locs → lv_has ls 5 [(0, .ref (ad b0)), (1, .int a1), (2, .int a2), (3, .int a3), (4, .int x4)] → W p l e ({ frames := 4 + (dd + 1), cells := 0, slots := 0, locals := 93 + (dd + 1) * 24 } : Room) s m args below meth c H locs 0 0 (MQ below (gQ0 Γ ad nz r A) args s 0 0 A) (F0 m 54 ls []) := by
  intro n6
  induction n6 with
  | zero =>
    intro x4 μ5 H locs ls hf h hl
    have hf : (none : gR) = some r := hf
    cases hf
  | succ n6 ih =>
    intro x4 μ5 H locs ls hf h hl
    rw [fX2_digsOn_L54] at hf
    refine lv_iload X.hx X.hb dX2_digsOn_54 (lv_at hl 4 rfl) ?_
    refine lv_aload_n X.hx X.hb dX2_digsOn_56 rfl (lv_at hl 0 rfl) ?_
    refine r_getI X h (ci := 2) (k := 11) (C := RX2) (T := TX2) (N := 36) rfl in_X2 (by decide) q1070 rfl dX2_digsOn_57 hf (fun x7 hf => ?_)
    refine lv_icmp_ge (tgt := 115) X.hx X.hb dX2_digsOn_60 (by decide) (fun hc => ?_) (fun hc => ?_)
    · replace hf := gif_t hf hc
      clear hc
      refine lv_iconst (v := 0) X.hx X.hb dX2_digsOn_115 (by decide) ?_
      exact r_rz X h hr hlk ((by first | exact Nat.le_of_ble_eq_true rfl | omega | (dsimp only; omega))) ((by first | exact Nat.le_of_ble_eq_true rfl | omega | (dsimp only; omega))) dX2_digsOn_116 hf
    · replace hf := gif_f hf hc
      clear hc
      refine lv_aload_n X.hx X.hb dX2_digsOn_63 rfl (lv_at hl 0 rfl) ?_
      refine lv_iload_n X.hx X.hb dX2_digsOn_64 rfl (lv_at hl 2 rfl) ?_
      refine lv_iload_n X.hx X.hb dX2_digsOn_65 rfl (lv_at hl 2 rfl) ?_
      refine lv_iconst (v := 1) X.hx X.hb dX2_digsOn_66 (by decide) ?_
      refine lv_iadd X.hx X.hb dX2_digsOn_67 ?_
      refine r_cVV (As := [.int a2, .int (a2 + 1)]) (rest := []) (C := RX2) (T := TX2) (N := 36) X h hf (fun res hres => wX2_copyTo l Γ ad _ b0 a2 (a2 + 1) res hres) rfl (cwV 2 X.hts (lw_V q1398 q1400 qs63 q84 q1401) rfl rfl rfl (by decide +kernel) ⟨(by first | exact Nat.le_of_ble_eq_true rfl | omega | (dsimp only; omega)), (by first | exact Nat.le_of_ble_eq_true rfl | omega | (dsimp only; omega))⟩) rfl ⟨hl.1, Nat.le_of_ble_eq_true rfl, (by first | exact Nat.le_of_ble_eq_true rfl | omega | (dsimp only; omega)), (by first | exact Nat.le_of_ble_eq_true rfl | omega | (dsimp only; omega))⟩ rfl dX2_digsOn_68 (fun μ8 H locs hf h => ?_)
      refine lv_aload_n X.hx X.hb dX2_digsOn_71 rfl (lv_at hl 0 rfl) ?_
      refine lv_iload_n X.hx X.hb dX2_digsOn_72 rfl (lv_at hl 2 rfl) ?_
      refine lv_iconst (v := 1) X.hx X.hb dX2_digsOn_73 (by decide) ?_
      refine lv_iadd X.hx X.hb dX2_digsOn_74 ?_
      refine lv_iload X.hx X.hb dX2_digsOn_75 (lv_at hl 4 rfl) ?_
      refine lv_bipush (v := 6) X.hx X.hb dX2_digsOn_77 (by decide) ?_
      refine lv_aload_n X.hx X.hb dX2_digsOn_79 rfl (lv_at hl 0 rfl) ?_
      refine r_getI X h (ci := 2) (k := 10) (C := RX2) (T := TX2) (N := 36) rfl in_X2 (by decide) q1069 rfl dX2_digsOn_80 hf (fun x9 hf => ?_)
      refine r_cVI (As := [.int (a2 + 1), .int x4, .int 6, .int x9]) (rest := []) (C := RX2) (T := TX2) (N := 36) X h hf (fun res hres => wX2_moves l Γ ad _ b0 (a2 + 1) x4 6 x9 res hres) rfl (cwV 4 X.hts (lw_V q1338 q1340 qs56 q84 q1341) rfl rfl rfl (by decide +kernel) ⟨(by first | exact Nat.le_of_ble_eq_true rfl | omega | (dsimp only; omega)), (by first | exact Nat.le_of_ble_eq_true rfl | omega | (dsimp only; omega))⟩) rfl ⟨hl.1, Nat.le_of_ble_eq_true rfl, (by first | exact Nat.le_of_ble_eq_true rfl | omega | (dsimp only; omega)), (by first | exact Nat.le_of_ble_eq_true rfl | omega | (dsimp only; omega))⟩ rfl dX2_digsOn_83 (fun x10 μ11 H locs hf h => ?_)
      refine lv_pop X.hx X.hb dX2_digsOn_86 rfl ?_
      refine lv_aload_n X.hx X.hb dX2_digsOn_87 rfl (lv_at hl 0 rfl) ?_
      refine r_getP X h (ci := 2) (k := 28) (C := RX2) (T := TX2) (N := 36) rfl in_X2 (by decide) q1087 rfl dX2_digsOn_88 hf (fun i12 hf => ?_)
      refine lv_iload_n X.hx X.hb dX2_digsOn_91 rfl (lv_at hl 2 rfl) ?_
      refine lv_iload X.hx X.hb dX2_digsOn_92 (lv_at hl 4 rfl) ?_
      refine r_iast X h dX2_digsOn_94 hf (fun μ13 H locs hf h => ?_)
      refine lv_aload_n X.hx X.hb dX2_digsOn_95 rfl (lv_at hl 0 rfl) ?_
      refine lv_iload_n X.hx X.hb dX2_digsOn_96 rfl (lv_at hl 1 rfl) ?_
      refine lv_iload_n X.hx X.hb dX2_digsOn_97 rfl (lv_at hl 2 rfl) ?_
      refine lv_iconst (v := 1) X.hx X.hb dX2_digsOn_98 (by decide) ?_
      refine lv_iadd X.hx X.hb dX2_digsOn_99 ?_
      refine lv_iload_n X.hx X.hb dX2_digsOn_100 rfl (lv_at hl 3 rfl) ?_
      refine r_cVI (As := [.int a1, .int (a2 + 1), .int a3]) (rest := []) (C := RX2) (T := TX2) (N := 36) X h hf (fun res hres => hrec ad _ b0 a1 (a2 + 1) a3 res hres) rfl (cwV 3 X.hts (lw_V q1414 q1416 qs65 q84 q1417) rfl rfl rfl (by decide +kernel) ⟨(by first | exact Nat.le_of_ble_eq_true rfl | omega | (dsimp only; omega)), (by first | exact Nat.le_of_ble_eq_true rfl | omega | (dsimp only; omega))⟩) rfl ⟨hl.1, Nat.le_of_ble_eq_true rfl, (by first | exact Nat.le_of_ble_eq_true rfl | omega | (dsimp only; omega)), (by first | exact Nat.le_of_ble_eq_true rfl | omega | (dsimp only; omega))⟩ rfl dX2_digsOn_101 (fun x14 μ15 H locs hf h => ?_)
      refine lv_if_eq (tgt := 109) X.hx X.hb dX2_digsOn_104 (by decide) (fun hc => ?_) (fun hc => ?_)
      · replace hf := gif_t hf hc
        clear hc
        refine r_nmk hf (fun x16 ex hf => ?_)
        refine lv_iinc (v := x16) (lv' := [(4, .int x16), (0, .ref (ad b0)), (1, .int a1), (2, .int a2), (3, .int a3)]) X.hx X.hb dX2_digsOn_109 hl (k := 4) rfl (by rw [ex]; rfl) (by decide) rfl (fun ls hl => ?_)
        clear ex
        refine lv_goto (tgt := 54) X.hx X.hb dX2_digsOn_112 (by decide) ?_
        exact ih _ _ _ _ _ hf h (lv_sub hl [1, 2, 3, 4, 0] rfl)
      · replace hf := gif_f hf hc
        clear hc
        refine lv_iconst (v := 1) X.hx X.hb dX2_digsOn_107 (by decide) ?_
        exact r_rz X h hr hlk ((by first | exact Nat.le_of_ble_eq_true rfl | omega | (dsimp only; omega))) ((by first | exact Nat.le_of_ble_eq_true rfl | omega | (dsimp only; omega))) dX2_digsOn_108 hf
def fX2_digsOn_B (rec : gM → Nat → Int32 → Int32 → Int32 → gR) (μ0 : gM) (b0 : Nat) (a1 : Int32) (a2 : Int32) (a3 : Int32) : gR := if a2 = a3 then (gis μ0 b0 2 <| cV (fX2_copyTo μ0 b0 a2 (a2 + 1)) fun μ19 => gis μ19 b0 2 <| cI (fX2_firstAgainst μ19 b0 (a2 + 1) a1) fun x20 μ21 => gP (gfld μ21 b0 2 5) fun i22 => gaI μ21 0 i22 a1 fun x23 => if x20 = x23 then (rZ 1 μ21) else (rZ 0 μ21)) else (gjn (fun (x1 : Int32) (μ2 : gM) => fX2_digsOn_L54 rec b0 a1 a2 a3 10000 x1 μ2) fun j3 => if a2 = 0 then (j3 0 μ0) else (gP (gfld μ0 b0 2 28) fun i17 => gaI μ0 0 i17 (a2 - 1) fun x18 => j3 x18 μ0))
set_option maxHeartbeats 4000000 in
theorem wX2_digsOn_B (l : Launch) (Γ : gG) (dd : Nat) (rec : gM → Nat → Int32 → Int32 → Int32 → gR) (hrec : ∀ (ad : Nat → Nat) (μ : gM) (b0 : Nat) (a1 : Int32) (a2 : Int32) (a3 : Int32) (r : Option Value × gM), rec μ b0 a1 a2 a3 = some r → gMt0 l Γ yX2_digsOn (ws_ yX2_digsOn cX2_digsOn 5 (some .boolean)) ({ frames := 4 + dd, cells := 0, slots := 0, locals := 93 + dd * 24 } : Room) 0 0 ad μ [.ref (ad b0), .int a1, .int a2, .int a3] r) (ad : Nat → Nat) (μ0 : gM) (b0 : Nat) (a1 : Int32) (a2 : Int32) (a3 : Int32) (r : Option Value × gM) (hf : fX2_digsOn_B rec μ0 b0 a1 a2 a3 = some r) : gMt0 l Γ yX2_digsOn (ws_ yX2_digsOn cX2_digsOn 5 (some .boolean)) ({ frames := 4 + (dd + 1), cells := 0, slots := 0, locals := 93 + (dd + 1) * 24 } : Room) 0 0 ad μ0 [.ref (ad b0), .int a1, .int a2, .int a3] r := by
  intro sz
  refine g_start (maxL := 5) (ret := (some .boolean)) (by decide) rfl g_all (Nat.le_of_ble_eq_true rfl) ?_
  intro p e s m below meth c ls hr hlk hnm X h hl
  generalize gA ad μ0 sz = A at X h ⊢
  generalize ([.ref (ad b0), .int a1, .int a2, .int a3] : List Value).toArray = args at X ⊢
  have X : gX p m c cX2_digsOn 5 s args "SandPianoModel" Γ A := X
  have hl : lv_has ls 5 [(0, .ref (ad b0)), (1, .int a1), (2, .int a2), (3, .int a3)] := hl
  show W p l e ({ frames := 4 + (dd + 1), cells := 0, slots := 0, locals := 93 + (dd + 1) * 24 } : Room) s m args below meth c s.heap [] 0 0 (MQ below (gQ0 Γ ad μ0.1 r A) args s 0 0 A) (F0 m 0 ls [])
  unfold fX2_digsOn_B at hf
  refine lv_iload_n X.hx X.hb dX2_digsOn_0 rfl (lv_at hl 2 rfl) ?_
  refine lv_iload_n X.hx X.hb dX2_digsOn_1 rfl (lv_at hl 3 rfl) ?_
  refine lv_icmp_ne (tgt := 36) X.hx X.hb dX2_digsOn_2 (by decide) (fun hc => ?_) (fun hc => ?_)
  · replace hf := gif_f hf hc
    clear hc
    refine lv_iload_n X.hx X.hb dX2_digsOn_36 rfl (lv_at hl 2 rfl) ?_
    refine r_jn hf (fun j3 ej3 hf => ?_)
    have hj3 : ∀ (x1 : Int32) (μ2 : gM) (H : Heap) (locs : List Loc) (ls : Array Slot), j3 x1 μ2 = some r → gWd Γ A μ0.1 ad μ2 s.heap H locs → lv_has ls 5 [(0, .ref (ad b0)), (1, .int a1), (2, .int a2), (3, .int a3)] → W p l e ({ frames := 4 + (dd + 1), cells := 0, slots := 0, locals := 93 + (dd + 1) * 24 } : Room) s m args below meth c H locs 0 0 (MQ below (gQ0 Γ ad μ0.1 r A) args s 0 0 A) (F0 m 52 ls [.int x1]) := by
      intro x1 μ2 H locs ls hf h hl
      rw [ej3] at hf
      refine lv_istore (lv' := [(4, .int x1), (0, .ref (ad b0)), (1, .int a1), (2, .int a2), (3, .int a3)]) X.hx X.hb dX2_digsOn_52 hl (by decide) rfl (fun ls hl => ?_)
      refine wX2_digsOn_L54 l _ rec b0 a1 a2 a3 X hr hlk hrec 10000 _ _ _ _ _ hf h (lv_sub hl [1, 2, 3, 4, 0] rfl)
    clear ej3
    refine lv_if_ne (tgt := 44) X.hx X.hb dX2_digsOn_37 (by decide) (fun hc => ?_) (fun hc => ?_)
    · replace hf := gif_f hf hc
      clear hc
      refine lv_aload_n X.hx X.hb dX2_digsOn_44 rfl (lv_at hl 0 rfl) ?_
      refine r_getP X h (ci := 2) (k := 28) (C := RX2) (T := TX2) (N := 36) rfl in_X2 (by decide) q1087 rfl dX2_digsOn_45 hf (fun i17 hf => ?_)
      refine lv_iload_n X.hx X.hb dX2_digsOn_48 rfl (lv_at hl 2 rfl) ?_
      refine lv_iconst (v := 1) X.hx X.hb dX2_digsOn_49 (by decide) ?_
      refine lv_isub X.hx X.hb dX2_digsOn_50 ?_
      refine r_iald X h dX2_digsOn_51 hf (fun x18 hf => ?_)
      exact hj3 _ _ _ _ _ hf h (lv_sub hl [0, 1, 2, 3] rfl)
    · replace hf := gif_t hf hc
      clear hc
      refine lv_iconst (v := 0) X.hx X.hb dX2_digsOn_40 (by decide) ?_
      refine lv_goto (tgt := 52) X.hx X.hb dX2_digsOn_41 (by decide) ?_
      exact hj3 _ _ _ _ _ hf h (lv_sub hl [0, 1, 2, 3] rfl)
  · replace hf := gif_t hf hc
    clear hc
    refine lv_aload_n X.hx X.hb dX2_digsOn_5 rfl (lv_at hl 0 rfl) ?_
    refine lv_iload_n X.hx X.hb dX2_digsOn_6 rfl (lv_at hl 2 rfl) ?_
    refine lv_iload_n X.hx X.hb dX2_digsOn_7 rfl (lv_at hl 2 rfl) ?_
    refine lv_iconst (v := 1) X.hx X.hb dX2_digsOn_8 (by decide) ?_
    refine lv_iadd X.hx X.hb dX2_digsOn_9 ?_
    refine r_cVV (As := [.int a2, .int (a2 + 1)]) (rest := []) (C := RX2) (T := TX2) (N := 36) X h hf (fun res hres => wX2_copyTo l Γ ad _ b0 a2 (a2 + 1) res hres) rfl (cwV 2 X.hts (lw_V q1398 q1400 qs63 q84 q1401) rfl rfl rfl (by decide +kernel) ⟨(by first | exact Nat.le_of_ble_eq_true rfl | omega | (dsimp only; omega)), (by first | exact Nat.le_of_ble_eq_true rfl | omega | (dsimp only; omega))⟩) rfl ⟨hl.1, Nat.le_of_ble_eq_true rfl, (by first | exact Nat.le_of_ble_eq_true rfl | omega | (dsimp only; omega)), (by first | exact Nat.le_of_ble_eq_true rfl | omega | (dsimp only; omega))⟩ rfl dX2_digsOn_10 (fun μ19 H locs hf h => ?_)
    refine lv_aload_n X.hx X.hb dX2_digsOn_13 rfl (lv_at hl 0 rfl) ?_
    refine lv_iload_n X.hx X.hb dX2_digsOn_14 rfl (lv_at hl 2 rfl) ?_
    refine lv_iconst (v := 1) X.hx X.hb dX2_digsOn_15 (by decide) ?_
    refine lv_iadd X.hx X.hb dX2_digsOn_16 ?_
    refine lv_iload_n X.hx X.hb dX2_digsOn_17 rfl (lv_at hl 1 rfl) ?_
    refine r_cVI (As := [.int (a2 + 1), .int a1]) (rest := []) (C := RX2) (T := TX2) (N := 36) X h hf (fun res hres => wX2_firstAgainst l Γ ad _ b0 (a2 + 1) a1 res hres) rfl (cwV 2 X.hts (lw_V q1402 q1404 qs64 q84 q1405) rfl rfl rfl (by decide +kernel) ⟨(by first | exact Nat.le_of_ble_eq_true rfl | omega | (dsimp only; omega)), (by first | exact Nat.le_of_ble_eq_true rfl | omega | (dsimp only; omega))⟩) rfl ⟨hl.1, Nat.le_of_ble_eq_true rfl, (by first | exact Nat.le_of_ble_eq_true rfl | omega | (dsimp only; omega)), (by first | exact Nat.le_of_ble_eq_true rfl | omega | (dsimp only; omega))⟩ rfl dX2_digsOn_18 (fun x20 μ21 H locs hf h => ?_)
    refine lv_aload_n X.hx X.hb dX2_digsOn_21 rfl (lv_at hl 0 rfl) ?_
    refine r_getP X h (ci := 2) (k := 5) (C := RX2) (T := TX2) (N := 36) rfl in_X2 (by decide) q1064 rfl dX2_digsOn_22 hf (fun i22 hf => ?_)
    refine lv_iload_n X.hx X.hb dX2_digsOn_25 rfl (lv_at hl 1 rfl) ?_
    refine r_iald X h dX2_digsOn_26 hf (fun x23 hf => ?_)
    refine lv_icmp_ne (tgt := 34) X.hx X.hb dX2_digsOn_27 (by decide) (fun hc => ?_) (fun hc => ?_)
    · replace hf := gif_f hf hc
      clear hc
      refine lv_iconst (v := 0) X.hx X.hb dX2_digsOn_34 (by decide) ?_
      exact r_rz X h hr hlk ((by first | exact Nat.le_of_ble_eq_true rfl | omega | (dsimp only; omega))) ((by first | exact Nat.le_of_ble_eq_true rfl | omega | (dsimp only; omega))) dX2_digsOn_35 hf
    · replace hf := gif_t hf hc
      clear hc
      refine lv_iconst (v := 1) X.hx X.hb dX2_digsOn_30 (by decide) ?_
      refine lv_goto (tgt := 35) X.hx X.hb dX2_digsOn_31 (by decide) ?_
      exact r_rz X h hr hlk ((by first | exact Nat.le_of_ble_eq_true rfl | omega | (dsimp only; omega))) ((by first | exact Nat.le_of_ble_eq_true rfl | omega | (dsimp only; omega))) dX2_digsOn_35 hf
def fX2_digsOn : Nat → gM → Nat → Int32 → Int32 → Int32 → gR
  | 0, _, _, _, _, _ => none
  | d + 1, μ0, b0, a1, a2, a3 => fX2_digsOn_B (fX2_digsOn d) μ0 b0 a1 a2 a3
theorem wX2_digsOn (l : Launch) (Γ : gG) : ∀ (dd : Nat) (ad : Nat → Nat) (μ0 : gM) (b0 : Nat) (a1 : Int32) (a2 : Int32) (a3 : Int32) (r : Option Value × gM), fX2_digsOn dd μ0 b0 a1 a2 a3 = some r → gMt0 l Γ yX2_digsOn (ws_ yX2_digsOn cX2_digsOn 5 (some .boolean)) ({ frames := 4 + dd, cells := 0, slots := 0, locals := 93 + dd * 24 } : Room) 0 0 ad μ0 [.ref (ad b0), .int a1, .int a2, .int a3] r := by
  intro dd
  induction dd with
  | zero =>
    intro ad μ0 b0 a1 a2 a3 r hf
    have hf : (none : gR) = some r := hf
    cases hf
  | succ dd ih =>
    intro ad μ0 b0 a1 a2 a3 r hf
    exact wX2_digsOn_B l Γ dd (fX2_digsOn dd) ih ad μ0 b0 a1 a2 a3 r hf
/-! X2_pieceOf -/
def fX2_pieceOf_L21 (b0 : Nat) (a1 : Int32) (kx60 : Int32 → gM → gR) : Nat → Int32 → Int32 → gM → gR
  | 0, _, _, _ => none
  | n6 + 1, x3, x4, μ5 => gP (gfld μ5 b0 2 5) fun i7 => gaI μ5 0 i7 a1 fun x8 => if x8 ≤ x4 then (kx60 x3 μ5) else (gjn (fun (x9 : Int32) (μ10 : gM) => gnm (x4 + 1) fun x12 => fX2_pieceOf_L21 b0 a1 kx60 n6 x9 x12 μ10) fun j11 => gjn (fun  (μ13 : gM) => j11 0 μ13) fun j14 => if x3 = 0 then (j14 μ5) else (gis μ5 b0 2 <| cI (fX2_rowAt μ5 b0 a1 x4) fun x15 μ16 => gis μ16 b0 2 <| cI (fX2_isKey μ16 b0 x15) fun x17 μ18 => if x17 = 0 then (j14 μ18) else (j11 1 μ18)))
set_option maxHeartbeats 4000000 in
theorem wX2_pieceOf_L21 {p : Program} {e : Env} {s : State} {m : MethodId} {args : Array Value} {below : List Frame} {meth : Method} {c : Code} {Γ : gG} {A : Nat → Prop} {nz : Nat} {ad : Nat → Nat} {r : Option Value × gM} (l : Launch) (b0 : Nat) (a1 : Int32) (kx60 : Int32 → gM → gR) (X : gX p m c cX2_pieceOf 4 s args "SandPianoModel" Γ A) (hr : meth.sig.returnType = (some .int)) (hlk : meth.locks = false) (hk60 : ∀ (x19 : Int32) (μ : gM) (H : Heap) (locs : List Loc) (ls : Array Slot), kx60 x19 μ = some r → gWd Γ A nz ad μ s.heap H locs → lv_has ls 4 [(0, .ref (ad b0)), (2, .int x19)] → W p l e ({ frames := 2, cells := 0, slots := 0, locals := 43 } : Room) s m args below meth c H locs 0 0 (MQ below (gQ0 Γ ad nz r A) args s 0 0 A) (F0 m 60 ls [])) : ∀ (n6 : Nat) (x3 : Int32) (x4 : Int32) (μ5 : gM) (H : Heap) (locs : List Loc) (ls : Array Slot), fX2_pieceOf_L21 b0 a1 kx60 n6 x3 x4 μ5 = some r → gWd Γ A nz ad μ5 s.heap H locs → lv_has ls 4 [(0, .ref (ad b0)), (1, .int a1), (2, .int x3), (3, .int x4)] → W p l e ({ frames := 2, cells := 0, slots := 0, locals := 43 } : Room) s m args below meth c H locs 0 0 (MQ below (gQ0 Γ ad nz r A) args s 0 0 A) (F0 m 21 ls []) := by
  intro n6
  induction n6 with
  | zero =>
    intro x3 x4 μ5 H locs ls hf h hl
    have hf : (none : gR) = some r := hf
    cases hf
  | succ n6 ih =>
    intro x3 x4 μ5 H locs ls hf h hl
    rw [fX2_pieceOf_L21] at hf
    refine lv_iload_n X.hx X.hb dX2_pieceOf_21 rfl (lv_at hl 3 rfl) ?_
    refine lv_aload_n X.hx X.hb dX2_pieceOf_22 rfl (lv_at hl 0 rfl) ?_
    refine r_getP X h (ci := 2) (k := 5) (C := RX2) (T := TX2) (N := 36) rfl in_X2 (by decide) q1064 rfl dX2_pieceOf_23 hf (fun i7 hf => ?_)
    refine lv_iload_n X.hx X.hb dX2_pieceOf_26 rfl (lv_at hl 1 rfl) ?_
    refine r_iald X h dX2_pieceOf_27 hf (fun x8 hf => ?_)
    refine lv_icmp_ge (tgt := 60) X.hx X.hb dX2_pieceOf_28 (by decide) (fun hc => ?_) (fun hc => ?_)
    · replace hf := gif_t hf hc
      clear hc
      exact hk60 _ _ _ _ _ hf h (lv_sub hl [0, 2] rfl)
    · replace hf := gif_f hf hc
      clear hc
      refine lv_iload_n X.hx X.hb dX2_pieceOf_31 rfl (lv_at hl 2 rfl) ?_
      refine r_jn hf (fun j11 ej11 hf => ?_)
      have hj11 : ∀ (x9 : Int32) (μ10 : gM) (H : Heap) (locs : List Loc) (ls : Array Slot), j11 x9 μ10 = some r → gWd Γ A nz ad μ10 s.heap H locs → lv_has ls 4 [(0, .ref (ad b0)), (1, .int a1), (3, .int x4)] → W p l e ({ frames := 2, cells := 0, slots := 0, locals := 43 } : Room) s m args below meth c H locs 0 0 (MQ below (gQ0 Γ ad nz r A) args s 0 0 A) (F0 m 53 ls [.int x9]) := by
        intro x9 μ10 H locs ls hf h hl
        rw [ej11] at hf
        refine lv_istore_n (lv' := [(2, .int x9), (0, .ref (ad b0)), (1, .int a1), (3, .int x4)]) X.hx X.hb dX2_pieceOf_53 rfl hl (by decide) rfl (fun ls hl => ?_)
        refine r_nmk hf (fun x12 ex hf => ?_)
        refine lv_iinc (v := x12) (lv' := [(3, .int x12), (2, .int x9), (0, .ref (ad b0)), (1, .int a1)]) X.hx X.hb dX2_pieceOf_54 hl (k := 3) rfl (by rw [ex]; rfl) (by decide) rfl (fun ls hl => ?_)
        clear ex
        refine lv_goto (tgt := 21) X.hx X.hb dX2_pieceOf_57 (by decide) ?_
        exact ih _ _ _ _ _ _ hf h (lv_sub hl [2, 3, 1, 0] rfl)
      clear ej11
      refine r_jn hf (fun j14 ej14 hf => ?_)
      have hj14 : ∀  (μ13 : gM) (H : Heap) (locs : List Loc) (ls : Array Slot), j14  μ13 = some r → gWd Γ A nz ad μ13 s.heap H locs → lv_has ls 4 [(0, .ref (ad b0)), (1, .int a1), (3, .int x4)] → W p l e ({ frames := 2, cells := 0, slots := 0, locals := 43 } : Room) s m args below meth c H locs 0 0 (MQ below (gQ0 Γ ad nz r A) args s 0 0 A) (F0 m 52 ls []) := by
        intro μ13 H locs ls hf h hl
        rw [ej14] at hf
        refine lv_iconst (v := 0) X.hx X.hb dX2_pieceOf_52 (by decide) ?_
        exact hj11 _ _ _ _ _ hf h (lv_sub hl [0, 1, 2] rfl)
      clear ej14
      refine lv_if_eq (tgt := 52) X.hx X.hb dX2_pieceOf_32 (by decide) (fun hc => ?_) (fun hc => ?_)
      · replace hf := gif_t hf hc
        clear hc
        exact hj14 _ _ _ _ hf h (lv_sub hl [0, 1, 3] rfl)
      · replace hf := gif_f hf hc
        clear hc
        refine lv_aload_n X.hx X.hb dX2_pieceOf_35 rfl (lv_at hl 0 rfl) ?_
        refine lv_aload_n X.hx X.hb dX2_pieceOf_36 rfl (lv_at hl 0 rfl) ?_
        refine lv_iload_n X.hx X.hb dX2_pieceOf_37 rfl (lv_at hl 1 rfl) ?_
        refine lv_iload_n X.hx X.hb dX2_pieceOf_38 rfl (lv_at hl 3 rfl) ?_
        refine r_cVI (As := [.int a1, .int x4]) (rest := [.ref (ad b0)]) (C := RX2) (T := TX2) (N := 36) X h hf (fun res hres => wX2_rowAt l Γ ad _ b0 a1 x4 res hres) rfl (cwV 2 X.hts (lw_V q1207 q1209 qs39 q84 q1210) rfl rfl rfl (by decide +kernel) ⟨Nat.le_of_ble_eq_true rfl, Nat.le_of_ble_eq_true rfl⟩) rfl ⟨hl.1, Nat.le_of_ble_eq_true rfl, Nat.le_of_ble_eq_true rfl, Nat.le_of_ble_eq_true rfl⟩ rfl dX2_pieceOf_39 (fun x15 μ16 H locs hf h => ?_)
        refine r_cVI (As := [.int x15]) (rest := []) (C := RX2) (T := TX2) (N := 36) X h hf (fun res hres => wX2_isKey l Γ ad _ b0 x15 res hres) rfl (cwV 1 X.hts (lw_V q1281 q1283 qs47 q84 q1284) rfl rfl rfl (by decide +kernel) ⟨Nat.le_of_ble_eq_true rfl, Nat.le_of_ble_eq_true rfl⟩) rfl ⟨hl.1, Nat.le_of_ble_eq_true rfl, Nat.le_of_ble_eq_true rfl, Nat.le_of_ble_eq_true rfl⟩ rfl dX2_pieceOf_42 (fun x17 μ18 H locs hf h => ?_)
        refine lv_if_eq (tgt := 52) X.hx X.hb dX2_pieceOf_45 (by decide) (fun hc => ?_) (fun hc => ?_)
        · replace hf := gif_t hf hc
          clear hc
          exact hj14 _ _ _ _ hf h (lv_sub hl [0, 1, 3] rfl)
        · replace hf := gif_f hf hc
          clear hc
          refine lv_iconst (v := 1) X.hx X.hb dX2_pieceOf_48 (by decide) ?_
          refine lv_goto (tgt := 53) X.hx X.hb dX2_pieceOf_49 (by decide) ?_
          exact hj11 _ _ _ _ _ hf h (lv_sub hl [0, 1, 3] rfl)
def fX2_pieceOf (μ0 : gM) (b0 : Nat) (a1 : Int32) : gR := gP (gfld μ0 b0 2 5) fun i1 => gaI μ0 0 i1 a1 fun x2 => if x2 ≤ 12 then (fX2_pieceOf_L21 b0 a1 (fun (x20 : Int32) (μ21 : gM) => if x20 = 0 then (gis μ21 b0 2 <| cI (fX2_meets μ21 b0 3) fun x22 μ23 => some (some (.int x22), μ23)) else (some (some (.int 0), μ21))) 10000 1 0 μ0) else (gis μ0 b0 2 <| cI (fX2_meets μ0 b0 5) fun x24 μ25 => some (some (.int x24), μ25))
set_option maxHeartbeats 4000000 in
theorem wX2_pieceOf (l : Launch) (Γ : gG) (ad : Nat → Nat) (μ0 : gM) (b0 : Nat) (a1 : Int32) (r : Option Value × gM) (hf : fX2_pieceOf μ0 b0 a1 = some r) : gMt0 l Γ yX2_pieceOf (ws_ yX2_pieceOf cX2_pieceOf 4 (some .int)) ({ frames := 2, cells := 0, slots := 0, locals := 43 } : Room) 0 0 ad μ0 [.ref (ad b0), .int a1] r := by
  intro sz
  refine g_start (maxL := 4) (ret := (some .int)) (by decide) rfl g_all (Nat.le_of_ble_eq_true rfl) ?_
  intro p e s m below meth c ls hr hlk hnm X h hl
  generalize gA ad μ0 sz = A at X h ⊢
  generalize ([.ref (ad b0), .int a1] : List Value).toArray = args at X ⊢
  have X : gX p m c cX2_pieceOf 4 s args "SandPianoModel" Γ A := X
  have hl : lv_has ls 4 [(0, .ref (ad b0)), (1, .int a1)] := hl
  show W p l e ({ frames := 2, cells := 0, slots := 0, locals := 43 } : Room) s m args below meth c s.heap [] 0 0 (MQ below (gQ0 Γ ad μ0.1 r A) args s 0 0 A) (F0 m 0 ls [])
  unfold fX2_pieceOf at hf
  refine lv_aload_n X.hx X.hb dX2_pieceOf_0 rfl (lv_at hl 0 rfl) ?_
  refine r_getP X h (ci := 2) (k := 5) (C := RX2) (T := TX2) (N := 36) rfl in_X2 (by decide) q1064 rfl dX2_pieceOf_1 hf (fun i1 hf => ?_)
  refine lv_iload_n X.hx X.hb dX2_pieceOf_4 rfl (lv_at hl 1 rfl) ?_
  refine r_iald X h dX2_pieceOf_5 hf (fun x2 hf => ?_)
  refine lv_bipush (v := 12) X.hx X.hb dX2_pieceOf_6 (by decide) ?_
  refine lv_icmp_le (tgt := 17) X.hx X.hb dX2_pieceOf_8 (by decide) (fun hc => ?_) (fun hc => ?_)
  · replace hf := gif_t hf hc
    clear hc
    refine lv_iconst (v := 1) X.hx X.hb dX2_pieceOf_17 (by decide) ?_
    refine lv_istore_n (lv' := [(2, .int 1), (0, .ref (ad b0)), (1, .int a1)]) X.hx X.hb dX2_pieceOf_18 rfl hl (by decide) rfl (fun ls hl => ?_)
    refine lv_iconst (v := 0) X.hx X.hb dX2_pieceOf_19 (by decide) ?_
    refine lv_istore_n (lv' := [(3, .int 0), (2, .int 1), (0, .ref (ad b0)), (1, .int a1)]) X.hx X.hb dX2_pieceOf_20 rfl hl (by decide) rfl (fun ls hl => ?_)
    refine wX2_pieceOf_L21 l b0 a1 _ X hr hlk (fun x20 μ21 H locs ls hf h hl => ?_) 10000 _ _ _ _ _ _ hf h (lv_sub hl [2, 3, 1, 0] rfl)
    refine lv_iload_n X.hx X.hb dX2_pieceOf_60 rfl (lv_at hl 1 rfl) ?_
    refine lv_if_eq (tgt := 68) X.hx X.hb dX2_pieceOf_61 (by decide) (fun hc => ?_) (fun hc => ?_)
    · replace hf := gif_t hf hc
      clear hc
      refine lv_aload_n X.hx X.hb dX2_pieceOf_68 rfl (lv_at hl 0 rfl) ?_
      refine lv_iconst (v := 3) X.hx X.hb dX2_pieceOf_69 (by decide) ?_
      refine r_cVI (As := [.int 3]) (rest := []) (C := RX2) (T := TX2) (N := 36) X h hf (fun res hres => wX2_meets l Γ ad _ b0 3 res hres) rfl (cwV 1 X.hts (lw_V q1199 q1201 qs38 q84 q1202) rfl rfl rfl (by decide +kernel) ⟨Nat.le_of_ble_eq_true rfl, Nat.le_of_ble_eq_true rfl⟩) rfl ⟨hl.1, Nat.le_of_ble_eq_true rfl, Nat.le_of_ble_eq_true rfl, Nat.le_of_ble_eq_true rfl⟩ rfl dX2_pieceOf_70 (fun x22 μ23 H locs hf h => ?_)
      exact r_ri X h hr hlk (Nat.le_of_ble_eq_true rfl) (Nat.le_of_ble_eq_true rfl) dX2_pieceOf_73 hf
    · replace hf := gif_f hf hc
      clear hc
      refine lv_iconst (v := 0) X.hx X.hb dX2_pieceOf_64 (by decide) ?_
      refine lv_goto (tgt := 73) X.hx X.hb dX2_pieceOf_65 (by decide) ?_
      exact r_ri X h hr hlk (Nat.le_of_ble_eq_true rfl) (Nat.le_of_ble_eq_true rfl) dX2_pieceOf_73 hf
  · replace hf := gif_f hf hc
    clear hc
    refine lv_aload_n X.hx X.hb dX2_pieceOf_11 rfl (lv_at hl 0 rfl) ?_
    refine lv_iconst (v := 5) X.hx X.hb dX2_pieceOf_12 (by decide) ?_
    refine r_cVI (As := [.int 5]) (rest := []) (C := RX2) (T := TX2) (N := 36) X h hf (fun res hres => wX2_meets l Γ ad _ b0 5 res hres) rfl (cwV 1 X.hts (lw_V q1199 q1201 qs38 q84 q1202) rfl rfl rfl (by decide +kernel) ⟨Nat.le_of_ble_eq_true rfl, Nat.le_of_ble_eq_true rfl⟩) rfl ⟨hl.1, Nat.le_of_ble_eq_true rfl, Nat.le_of_ble_eq_true rfl, Nat.le_of_ble_eq_true rfl⟩ rfl dX2_pieceOf_13 (fun x24 μ25 H locs hf h => ?_)
    exact r_ri X h hr hlk (Nat.le_of_ble_eq_true rfl) (Nat.le_of_ble_eq_true rfl) dX2_pieceOf_16 hf
/-! X2_needPiece -/
def fX2_needPiece (μ0 : gM) (b0 : Nat) (a1 : Int32) : gR := gP (gfld μ0 b0 2 5) fun i1 => gaI μ0 0 i1 a1 fun x2 => if 0 ≤ x2 then (gis μ0 b0 2 <| cI (fX2_pieceOf μ0 b0 a1) fun x3 μ4 => some (some (.int x3), μ4)) else (gis μ0 b0 2 <| cI (fX2_meets μ0 b0 1) fun x5 μ6 => some (some (.int x5), μ6))
set_option maxHeartbeats 4000000 in
theorem wX2_needPiece (l : Launch) (Γ : gG) (ad : Nat → Nat) (μ0 : gM) (b0 : Nat) (a1 : Int32) (r : Option Value × gM) (hf : fX2_needPiece μ0 b0 a1 = some r) : gMt0 l Γ yX2_needPiece (ws_ yX2_needPiece cX2_needPiece 2 (some .int)) ({ frames := 3, cells := 0, slots := 0, locals := 66 } : Room) 0 0 ad μ0 [.ref (ad b0), .int a1] r := by
  intro sz
  refine g_start (maxL := 2) (ret := (some .int)) (by decide) rfl g_all (Nat.le_of_ble_eq_true rfl) ?_
  intro p e s m below meth c ls hr hlk hnm X h hl
  generalize gA ad μ0 sz = A at X h ⊢
  generalize ([.ref (ad b0), .int a1] : List Value).toArray = args at X ⊢
  have X : gX p m c cX2_needPiece 2 s args "SandPianoModel" Γ A := X
  have hl : lv_has ls 2 [(0, .ref (ad b0)), (1, .int a1)] := hl
  show W p l e ({ frames := 3, cells := 0, slots := 0, locals := 66 } : Room) s m args below meth c s.heap [] 0 0 (MQ below (gQ0 Γ ad μ0.1 r A) args s 0 0 A) (F0 m 0 ls [])
  unfold fX2_needPiece at hf
  refine lv_aload_n X.hx X.hb dX2_needPiece_0 rfl (lv_at hl 0 rfl) ?_
  refine r_getP X h (ci := 2) (k := 5) (C := RX2) (T := TX2) (N := 36) rfl in_X2 (by decide) q1064 rfl dX2_needPiece_1 hf (fun i1 hf => ?_)
  refine lv_iload_n X.hx X.hb dX2_needPiece_4 rfl (lv_at hl 1 rfl) ?_
  refine r_iald X h dX2_needPiece_5 hf (fun x2 hf => ?_)
  refine lv_if_ge (tgt := 17) X.hx X.hb dX2_needPiece_6 (by decide) (fun hc => ?_) (fun hc => ?_)
  · replace hf := gif_t hf hc
    clear hc
    refine lv_aload_n X.hx X.hb dX2_needPiece_17 rfl (lv_at hl 0 rfl) ?_
    refine lv_iload_n X.hx X.hb dX2_needPiece_18 rfl (lv_at hl 1 rfl) ?_
    refine r_cVI (As := [.int a1]) (rest := []) (C := RX2) (T := TX2) (N := 36) X h hf (fun res hres => wX2_pieceOf l Γ ad _ b0 a1 res hres) rfl (cwV 1 X.hts (lw_V q1394 q1396 qs62 q84 q1397) rfl rfl rfl (by decide +kernel) ⟨Nat.le_of_ble_eq_true rfl, Nat.le_of_ble_eq_true rfl⟩) rfl ⟨hl.1, Nat.le_of_ble_eq_true rfl, Nat.le_of_ble_eq_true rfl, Nat.le_of_ble_eq_true rfl⟩ rfl dX2_needPiece_19 (fun x3 μ4 H locs hf h => ?_)
    exact r_ri X h hr hlk (Nat.le_of_ble_eq_true rfl) (Nat.le_of_ble_eq_true rfl) dX2_needPiece_22 hf
  · replace hf := gif_f hf hc
    clear hc
    refine lv_aload_n X.hx X.hb dX2_needPiece_9 rfl (lv_at hl 0 rfl) ?_
    refine lv_iconst (v := 1) X.hx X.hb dX2_needPiece_10 (by decide) ?_
    refine r_cVI (As := [.int 1]) (rest := []) (C := RX2) (T := TX2) (N := 36) X h hf (fun res hres => wX2_meets l Γ ad _ b0 1 res hres) rfl (cwV 1 X.hts (lw_V q1199 q1201 qs38 q84 q1202) rfl rfl rfl (by decide +kernel) ⟨Nat.le_of_ble_eq_true rfl, Nat.le_of_ble_eq_true rfl⟩) rfl ⟨hl.1, Nat.le_of_ble_eq_true rfl, Nat.le_of_ble_eq_true rfl, Nat.le_of_ble_eq_true rfl⟩ rfl dX2_needPiece_11 (fun x5 μ6 H locs hf h => ?_)
    refine lv_goto (tgt := 22) X.hx X.hb dX2_needPiece_14 (by decide) ?_
    exact r_ri X h hr hlk (Nat.le_of_ble_eq_true rfl) (Nat.le_of_ble_eq_true rfl) dX2_needPiece_22 hf
/-! X2_digs -/
def fX2_digs_L31 (b0 : Nat) (a1 : Int32) (a2 : Int32) (kx48 : Int32 → gM → gR) : Nat → Int32 → gM → gR
  | 0, _, _ => none
  | n9 + 1, x7, μ8 => if 4 < x7 then (some (some (.int (-9)), μ8)) else (gis μ8 b0 2 <| cI (fX2_digsOn 8 μ8 b0 a1 0 x7) fun x10 μ11 => if x10 = 0 then (gnm (x7 + 1) fun x12 => fX2_digs_L31 b0 a1 a2 kx48 n9 x12 μ11) else (kx48 x7 μ11))
set_option maxHeartbeats 4000000 in
theorem wX2_digs_L31 {p : Program} {e : Env} {s : State} {m : MethodId} {args : Array Value} {below : List Frame} {meth : Method} {c : Code} {Γ : gG} {A : Nat → Prop} {nz : Nat} {ad : Nat → Nat} {r : Option Value × gM} (l : Launch) (b0 : Nat) (a1 : Int32) (a2 : Int32) (kx48 : Int32 → gM → gR) (X : gX p m c cX2_digs 5 s args "SandPianoModel" Γ A) (hr : meth.sig.returnType = (some .int)) (hlk : meth.locks = false) (hk48 : ∀ (x13 : Int32) (μ : gM) (H : Heap) (locs : List Loc) (ls : Array Slot), kx48 x13 μ = some r → gWd Γ A nz ad μ s.heap H locs → lv_has ls 5 [(0, .ref (ad b0)), (2, .int a2), (4, .int x13)] → W p l e ({ frames := 13, cells := 0, slots := 0, locals := 309 } : Room) s m args below meth c H locs 0 0 (MQ below (gQ0 Γ ad nz r A) args s 0 0 A) (F0 m 48 ls [])) : ∀ (n9 : Nat) (x7 : Int32) (μ8 : gM) (H : Heap) (locs : List Loc) (ls : Array Slot), fX2_digs_L31 b0 a1 a2 kx48 n9 x7 μ8 = some r → gWd Γ A nz ad μ8 s.heap H locs → lv_has ls 5 [(0, .ref (ad b0)), (1, .int a1), (2, .int a2), (4, .int x7)] → W p l e ({ frames := 13, cells := 0, slots := 0, locals := 309 } : Room) s m args below meth c H locs 0 0 (MQ below (gQ0 Γ ad nz r A) args s 0 0 A) (F0 m 31 ls []) := by
  intro n9
  induction n9 with
  | zero =>
    intro x7 μ8 H locs ls hf h hl
    have hf : (none : gR) = some r := hf
    cases hf
  | succ n9 ih =>
    intro x7 μ8 H locs ls hf h hl
    rw [fX2_digs_L31] at hf
    refine lv_iload X.hx X.hb dX2_digs_31 (lv_at hl 3 rfl) ?_
    refine lv_iconst (v := 4) X.hx X.hb dX2_digs_33 (by decide) ?_
    refine lv_icmp_gt (tgt := 68) X.hx X.hb dX2_digs_34 (by decide) (fun hc => ?_) (fun hc => ?_)
    · replace hf := gif_t hf hc
      clear hc
      refine lv_bipush (v := (-9)) X.hx X.hb dX2_digs_68 (by decide) ?_
      exact r_ri X h hr hlk (Nat.le_of_ble_eq_true rfl) (Nat.le_of_ble_eq_true rfl) dX2_digs_70 hf
    · replace hf := gif_f hf hc
      clear hc
      refine lv_aload_n X.hx X.hb dX2_digs_37 rfl (lv_at hl 0 rfl) ?_
      refine lv_iload_n X.hx X.hb dX2_digs_38 rfl (lv_at hl 1 rfl) ?_
      refine lv_iconst (v := 0) X.hx X.hb dX2_digs_39 (by decide) ?_
      refine lv_iload X.hx X.hb dX2_digs_40 (lv_at hl 3 rfl) ?_
      refine r_cVI (As := [.int a1, .int 0, .int x7]) (rest := []) (C := RX2) (T := TX2) (N := 36) X h hf (fun res hres => wX2_digsOn l Γ 8 ad _ b0 a1 0 x7 res hres) rfl (cwV 3 X.hts (lw_V q1414 q1416 qs65 q84 q1417) rfl rfl rfl (by decide +kernel) ⟨Nat.le_of_ble_eq_true rfl, Nat.le_of_ble_eq_true rfl⟩) rfl ⟨hl.1, Nat.le_of_ble_eq_true rfl, Nat.le_of_ble_eq_true rfl, Nat.le_of_ble_eq_true rfl⟩ rfl dX2_digs_42 (fun x10 μ11 H locs hf h => ?_)
      refine lv_if_eq (tgt := 62) X.hx X.hb dX2_digs_45 (by decide) (fun hc => ?_) (fun hc => ?_)
      · replace hf := gif_t hf hc
        clear hc
        refine r_nmk hf (fun x12 ex hf => ?_)
        refine lv_iinc (v := x12) (lv' := [(4, .int x12), (0, .ref (ad b0)), (1, .int a1), (2, .int a2)]) X.hx X.hb dX2_digs_62 hl (k := 3) rfl (by rw [ex]; rfl) (by decide) rfl (fun ls hl => ?_)
        clear ex
        refine lv_goto (tgt := 31) X.hx X.hb dX2_digs_65 (by decide) ?_
        exact ih _ _ _ _ _ hf h (lv_sub hl [1, 2, 3, 0] rfl)
      · replace hf := gif_f hf hc
        clear hc
        exact hk48 _ _ _ _ _ hf h (lv_sub hl [0, 2, 3] rfl)
def fX2_digs (μ0 : gM) (b0 : Nat) (a1 : Int32) (a2 : Int32) : gR := cI (fX2_isRow μ0 a1) fun x1 μ2 => if x1 = 0 then (some (some (.int (-1)), μ2)) else (cI (fX2_isRow μ2 a2) fun x3 μ4 => if x3 = 0 then (some (some (.int (-1)), μ4)) else (gis μ4 b0 2 <| cI (fX2_needPiece μ4 b0 a1) fun x5 μ6 => if 0 ≤ x5 then (fX2_digs_L31 b0 a1 a2 (fun (x14 : Int32) (μ15 : gM) => gP (gfld μ15 b0 2 28) fun i16 => gis μ15 b0 2 <| cV (fX2_layRow μ15 b0 a2 i16 x14) fun μ17 => some (some (.int x14), μ17)) 10000 0 μ6) else (some (some (.int x5), μ6))))
set_option maxHeartbeats 4000000 in
theorem wX2_digs (l : Launch) (Γ : gG) (ad : Nat → Nat) (μ0 : gM) (b0 : Nat) (a1 : Int32) (a2 : Int32) (r : Option Value × gM) (hf : fX2_digs μ0 b0 a1 a2 = some r) : gMt0 l Γ yX2_digs (ws_ yX2_digs cX2_digs 5 (some .int)) ({ frames := 13, cells := 0, slots := 0, locals := 309 } : Room) 0 0 ad μ0 [.ref (ad b0), .int a1, .int a2] r := by
  intro sz
  refine g_start (maxL := 5) (ret := (some .int)) (by decide) rfl g_all (Nat.le_of_ble_eq_true rfl) ?_
  intro p e s m below meth c ls hr hlk hnm X h hl
  generalize gA ad μ0 sz = A at X h ⊢
  generalize ([.ref (ad b0), .int a1, .int a2] : List Value).toArray = args at X ⊢
  have X : gX p m c cX2_digs 5 s args "SandPianoModel" Γ A := X
  have hl : lv_has ls 5 [(0, .ref (ad b0)), (1, .int a1), (2, .int a2)] := hl
  show W p l e ({ frames := 13, cells := 0, slots := 0, locals := 309 } : Room) s m args below meth c s.heap [] 0 0 (MQ below (gQ0 Γ ad μ0.1 r A) args s 0 0 A) (F0 m 0 ls [])
  unfold fX2_digs at hf
  refine lv_iload_n X.hx X.hb dX2_digs_0 rfl (lv_at hl 1 rfl) ?_
  refine r_cSI (As := [.int a1]) (rest := []) X h hf (fun res hres => wX2_isRow l Γ ad _ a1 res hres) (va_cwS 1 X.hts (lw_S q1196 q1197 q84 q1198) rfl rfl rfl (by decide +kernel) ⟨Nat.le_of_ble_eq_true rfl, Nat.le_of_ble_eq_true rfl⟩) rfl ⟨hl.1, Nat.le_of_ble_eq_true rfl, Nat.le_of_ble_eq_true rfl, Nat.le_of_ble_eq_true rfl⟩ rfl dX2_digs_1 (fun x1 μ2 H locs hf h => ?_)
  refine lv_if_eq (tgt := 14) X.hx X.hb dX2_digs_4 (by decide) (fun hc => ?_) (fun hc => ?_)
  · replace hf := gif_t hf hc
    clear hc
    refine lv_iconst (v := (-1)) X.hx X.hb dX2_digs_14 (by decide) ?_
    exact r_ri X h hr hlk (Nat.le_of_ble_eq_true rfl) (Nat.le_of_ble_eq_true rfl) dX2_digs_15 hf
  · replace hf := gif_f hf hc
    clear hc
    refine lv_iload_n X.hx X.hb dX2_digs_7 rfl (lv_at hl 2 rfl) ?_
    refine r_cSI (As := [.int a2]) (rest := []) X h hf (fun res hres => wX2_isRow l Γ ad _ a2 res hres) (va_cwS 1 X.hts (lw_S q1196 q1197 q84 q1198) rfl rfl rfl (by decide +kernel) ⟨Nat.le_of_ble_eq_true rfl, Nat.le_of_ble_eq_true rfl⟩) rfl ⟨hl.1, Nat.le_of_ble_eq_true rfl, Nat.le_of_ble_eq_true rfl, Nat.le_of_ble_eq_true rfl⟩ rfl dX2_digs_8 (fun x3 μ4 H locs hf h => ?_)
    refine lv_if_ne (tgt := 16) X.hx X.hb dX2_digs_11 (by decide) (fun hc => ?_) (fun hc => ?_)
    · replace hf := gif_f hf hc
      clear hc
      refine lv_aload_n X.hx X.hb dX2_digs_16 rfl (lv_at hl 0 rfl) ?_
      refine lv_iload_n X.hx X.hb dX2_digs_17 rfl (lv_at hl 1 rfl) ?_
      refine r_cVI (As := [.int a1]) (rest := []) (C := RX2) (T := TX2) (N := 36) X h hf (fun res hres => wX2_needPiece l Γ ad _ b0 a1 res hres) rfl (cwV 1 X.hts (lw_V q1390 q1392 qs61 q84 q1393) rfl rfl rfl (by decide +kernel) ⟨Nat.le_of_ble_eq_true rfl, Nat.le_of_ble_eq_true rfl⟩) rfl ⟨hl.1, Nat.le_of_ble_eq_true rfl, Nat.le_of_ble_eq_true rfl, Nat.le_of_ble_eq_true rfl⟩ rfl dX2_digs_18 (fun x5 μ6 H locs hf h => ?_)
      refine lv_istore_n (lv' := [(3, .int x5), (0, .ref (ad b0)), (1, .int a1), (2, .int a2)]) X.hx X.hb dX2_digs_21 rfl hl (by decide) rfl (fun ls hl => ?_)
      refine lv_iload_n X.hx X.hb dX2_digs_22 rfl (lv_at hl 0 rfl) ?_
      refine lv_if_ge (tgt := 28) X.hx X.hb dX2_digs_23 (by decide) (fun hc => ?_) (fun hc => ?_)
      · replace hf := gif_t hf hc
        clear hc
        refine lv_iconst (v := 0) X.hx X.hb dX2_digs_28 (by decide) ?_
        refine lv_istore (lv' := [(4, .int 0), (3, .int x5), (0, .ref (ad b0)), (1, .int a1), (2, .int a2)]) X.hx X.hb dX2_digs_29 hl (by decide) rfl (fun ls hl => ?_)
        refine wX2_digs_L31 l b0 a1 a2 _ X hr hlk (fun x14 μ15 H locs ls hf h hl => ?_) 10000 _ _ _ _ _ hf h (lv_sub hl [2, 3, 4, 0] rfl)
        refine lv_aload_n X.hx X.hb dX2_digs_48 rfl (lv_at hl 0 rfl) ?_
        refine lv_iload_n X.hx X.hb dX2_digs_49 rfl (lv_at hl 1 rfl) ?_
        refine lv_aload_n X.hx X.hb dX2_digs_50 rfl (lv_at hl 0 rfl) ?_
        refine r_getP X h (ci := 2) (k := 28) (C := RX2) (T := TX2) (N := 36) rfl in_X2 (by decide) q1087 rfl dX2_digs_51 hf (fun i16 hf => ?_)
        refine lv_iload X.hx X.hb dX2_digs_54 (lv_at hl 2 rfl) ?_
        refine r_cVV (As := [.int a2, .ref (ad i16), .int x14]) (rest := []) (C := RX2) (T := TX2) (N := 36) X h hf (fun res hres => wX2_layRow l Γ ad _ b0 a2 i16 x14 res hres) rfl (cwV 3 X.hts (lw_V q1418 q1420 qs66 q84 q1421) rfl rfl rfl (by decide +kernel) ⟨Nat.le_of_ble_eq_true rfl, Nat.le_of_ble_eq_true rfl⟩) rfl ⟨hl.1, Nat.le_of_ble_eq_true rfl, Nat.le_of_ble_eq_true rfl, Nat.le_of_ble_eq_true rfl⟩ rfl dX2_digs_56 (fun μ17 H locs hf h => ?_)
        refine lv_iload X.hx X.hb dX2_digs_59 (lv_at hl 2 rfl) ?_
        exact r_ri X h hr hlk (Nat.le_of_ble_eq_true rfl) (Nat.le_of_ble_eq_true rfl) dX2_digs_61 hf
      · replace hf := gif_f hf hc
        clear hc
        refine lv_iload_n X.hx X.hb dX2_digs_26 rfl (lv_at hl 0 rfl) ?_
        exact r_ri X h hr hlk (Nat.le_of_ble_eq_true rfl) (Nat.le_of_ble_eq_true rfl) dX2_digs_27 hf
    · replace hf := gif_t hf hc
      clear hc
      refine lv_iconst (v := (-1)) X.hx X.hb dX2_digs_14 (by decide) ?_
      exact r_ri X h hr hlk (Nat.le_of_ble_eq_true rfl) (Nat.le_of_ble_eq_true rfl) dX2_digs_15 hf
/-! X2_duet -/
def fX2_duet_L63 (b0 : Nat) (a1 : Int32) (a2 : Int32) (kx95 : gM → gR) : Nat → Int32 → gM → gR
  | 0, _, _ => none
  | n18 + 1, x16, μ17 => if 9 ≤ x16 then (kx95 μ17) else (gP (gfld μ17 b0 2 26) fun i19 => gaI μ17 0 i19 ((9 * a1) + x16) fun x20 => gis μ17 b0 2 <| cV (fX2_place μ17 b0 2 x16 x20) fun μ21 => gnm (x16 + 1) fun x22 => fX2_duet_L63 b0 a1 a2 kx95 n18 x22 μ21)
set_option maxHeartbeats 4000000 in
theorem wX2_duet_L63 {p : Program} {e : Env} {s : State} {m : MethodId} {args : Array Value} {below : List Frame} {meth : Method} {c : Code} {Γ : gG} {A : Nat → Prop} {nz : Nat} {ad : Nat → Nat} {r : Option Value × gM} (l : Launch) (b0 : Nat) (a1 : Int32) (a2 : Int32) (kx95 : gM → gR) (X : gX p m c cX2_duet 5 s args "SandPianoModel" Γ A) (hr : meth.sig.returnType = (some .int)) (hlk : meth.locks = false) (hk95 : ∀  (μ : gM) (H : Heap) (locs : List Loc) (ls : Array Slot), kx95  μ = some r → gWd Γ A nz ad μ s.heap H locs → lv_has ls 5 [(0, .ref (ad b0)), (2, .int a2)] → W p l e ({ frames := 3, cells := 0, slots := 0, locals := 70 } : Room) s m args below meth c H locs 0 0 (MQ below (gQ0 Γ ad nz r A) args s 0 0 A) (F0 m 95 ls [])) : ∀ (n18 : Nat) (x16 : Int32) (μ17 : gM) (H : Heap) (locs : List Loc) (ls : Array Slot), fX2_duet_L63 b0 a1 a2 kx95 n18 x16 μ17 = some r → gWd Γ A nz ad μ17 s.heap H locs → lv_has ls 5 [(0, .ref (ad b0)), (1, .int a1), (2, .int a2), (4, .int x16)] → W p l e ({ frames := 3, cells := 0, slots := 0, locals := 70 } : Room) s m args below meth c H locs 0 0 (MQ below (gQ0 Γ ad nz r A) args s 0 0 A) (F0 m 63 ls []) := by
  intro n18
  induction n18 with
  | zero =>
    intro x16 μ17 H locs ls hf h hl
    have hf : (none : gR) = some r := hf
    cases hf
  | succ n18 ih =>
    intro x16 μ17 H locs ls hf h hl
    rw [fX2_duet_L63] at hf
    refine lv_iload X.hx X.hb dX2_duet_63 (lv_at hl 3 rfl) ?_
    refine lv_bipush (v := 9) X.hx X.hb dX2_duet_65 (by decide) ?_
    refine lv_icmp_ge (tgt := 95) X.hx X.hb dX2_duet_67 (by decide) (fun hc => ?_) (fun hc => ?_)
    · replace hf := gif_t hf hc
      clear hc
      exact hk95 _ _ _ _ hf h (lv_sub hl [0, 2] rfl)
    · replace hf := gif_f hf hc
      clear hc
      refine lv_aload_n X.hx X.hb dX2_duet_70 rfl (lv_at hl 0 rfl) ?_
      refine lv_iconst (v := 2) X.hx X.hb dX2_duet_71 (by decide) ?_
      refine lv_iload X.hx X.hb dX2_duet_72 (lv_at hl 3 rfl) ?_
      refine lv_aload_n X.hx X.hb dX2_duet_74 rfl (lv_at hl 0 rfl) ?_
      refine r_getP X h (ci := 2) (k := 26) (C := RX2) (T := TX2) (N := 36) rfl in_X2 (by decide) q1085 rfl dX2_duet_75 hf (fun i19 hf => ?_)
      refine lv_bipush (v := 9) X.hx X.hb dX2_duet_78 (by decide) ?_
      refine lv_iload_n X.hx X.hb dX2_duet_80 rfl (lv_at hl 1 rfl) ?_
      refine lv_imul X.hx X.hb dX2_duet_81 ?_
      refine lv_iload X.hx X.hb dX2_duet_82 (lv_at hl 3 rfl) ?_
      refine lv_iadd X.hx X.hb dX2_duet_84 ?_
      refine r_iald X h dX2_duet_85 hf (fun x20 hf => ?_)
      refine r_cVV (As := [.int 2, .int x16, .int x20]) (rest := []) (C := RX2) (T := TX2) (N := 36) X h hf (fun res hres => wX2_place l Γ ad _ b0 2 x16 x20 res hres) rfl (cwV 3 X.hts (lw_V q1273 q1275 qs46 q84 q1276) rfl rfl rfl (by decide +kernel) ⟨Nat.le_of_ble_eq_true rfl, Nat.le_of_ble_eq_true rfl⟩) rfl ⟨hl.1, Nat.le_of_ble_eq_true rfl, Nat.le_of_ble_eq_true rfl, Nat.le_of_ble_eq_true rfl⟩ rfl dX2_duet_86 (fun μ21 H locs hf h => ?_)
      refine r_nmk hf (fun x22 ex hf => ?_)
      refine lv_iinc (v := x22) (lv' := [(4, .int x22), (0, .ref (ad b0)), (1, .int a1), (2, .int a2)]) X.hx X.hb dX2_duet_89 hl (k := 3) rfl (by rw [ex]; rfl) (by decide) rfl (fun ls hl => ?_)
      clear ex
      refine lv_goto (tgt := 63) X.hx X.hb dX2_duet_92 (by decide) ?_
      exact ih _ _ _ _ _ hf h (lv_sub hl [1, 2, 3, 0] rfl)
def fX2_duet_L98 (b0 : Nat) (a2 : Int32) : Nat → Int32 → gM → gR
  | 0, _, _ => none
  | n26 + 1, x24, μ25 => gP (gfld μ25 b0 2 5) fun i27 => gaI μ25 0 i27 a2 fun x28 => if x28 ≤ x24 then (some (some (.int x24), μ25)) else (gis μ25 b0 2 <| cI (fX2_rowAt μ25 b0 a2 x24) fun x29 μ30 => gis μ30 b0 2 <| cI (fX2_canPlay μ30 b0 (1 + (x24 - x24 / 2 * 2)) x29) fun x31 μ32 => if x31 = 0 then (some (some (.int x24), μ32)) else (gis μ32 b0 2 <| cI (fX2_rowAt μ32 b0 a2 x24) fun x33 μ34 => gis μ34 b0 2 <| cV (fX2_plays μ34 b0 (1 + (x24 - x24 / 2 * 2)) x33) fun μ35 => gnm (x24 + 1) fun x36 => fX2_duet_L98 b0 a2 n26 x36 μ35))
set_option maxHeartbeats 4000000 in
theorem wX2_duet_L98 {p : Program} {e : Env} {s : State} {m : MethodId} {args : Array Value} {below : List Frame} {meth : Method} {c : Code} {Γ : gG} {A : Nat → Prop} {nz : Nat} {ad : Nat → Nat} {r : Option Value × gM} (l : Launch) (b0 : Nat) (a2 : Int32) (X : gX p m c cX2_duet 5 s args "SandPianoModel" Γ A) (hr : meth.sig.returnType = (some .int)) (hlk : meth.locks = false) : ∀ (n26 : Nat) (x24 : Int32) (μ25 : gM) (H : Heap) (locs : List Loc) (ls : Array Slot), fX2_duet_L98 b0 a2 n26 x24 μ25 = some r → gWd Γ A nz ad μ25 s.heap H locs → lv_has ls 5 [(0, .ref (ad b0)), (2, .int a2), (4, .int x24)] → W p l e ({ frames := 3, cells := 0, slots := 0, locals := 70 } : Room) s m args below meth c H locs 0 0 (MQ below (gQ0 Γ ad nz r A) args s 0 0 A) (F0 m 98 ls []) := by
  intro n26
  induction n26 with
  | zero =>
    intro x24 μ25 H locs ls hf h hl
    have hf : (none : gR) = some r := hf
    cases hf
  | succ n26 ih =>
    intro x24 μ25 H locs ls hf h hl
    rw [fX2_duet_L98] at hf
    refine lv_iload X.hx X.hb dX2_duet_98 (lv_at hl 2 rfl) ?_
    refine lv_aload_n X.hx X.hb dX2_duet_100 rfl (lv_at hl 0 rfl) ?_
    refine r_getP X h (ci := 2) (k := 5) (C := RX2) (T := TX2) (N := 36) rfl in_X2 (by decide) q1064 rfl dX2_duet_101 hf (fun i27 hf => ?_)
    refine lv_iload_n X.hx X.hb dX2_duet_104 rfl (lv_at hl 1 rfl) ?_
    refine r_iald X h dX2_duet_105 hf (fun x28 hf => ?_)
    refine lv_icmp_ge (tgt := 152) X.hx X.hb dX2_duet_106 (by decide) (fun hc => ?_) (fun hc => ?_)
    · replace hf := gif_t hf hc
      clear hc
      refine lv_iload X.hx X.hb dX2_duet_152 (lv_at hl 2 rfl) ?_
      exact r_ri X h hr hlk (Nat.le_of_ble_eq_true rfl) (Nat.le_of_ble_eq_true rfl) dX2_duet_154 hf
    · replace hf := gif_f hf hc
      clear hc
      refine lv_aload_n X.hx X.hb dX2_duet_109 rfl (lv_at hl 0 rfl) ?_
      refine lv_iconst (v := 1) X.hx X.hb dX2_duet_110 (by decide) ?_
      refine lv_iload X.hx X.hb dX2_duet_111 (lv_at hl 2 rfl) ?_
      refine lv_iconst (v := 2) X.hx X.hb dX2_duet_113 (by decide) ?_
      refine lv_irem X.hx X.hb dX2_duet_114 (by decide) ?_
      refine lv_iadd X.hx X.hb dX2_duet_115 ?_
      refine lv_aload_n X.hx X.hb dX2_duet_116 rfl (lv_at hl 0 rfl) ?_
      refine lv_iload_n X.hx X.hb dX2_duet_117 rfl (lv_at hl 1 rfl) ?_
      refine lv_iload X.hx X.hb dX2_duet_118 (lv_at hl 2 rfl) ?_
      refine r_cVI (As := [.int a2, .int x24]) (rest := [.int (1 + (x24 - x24 / 2 * 2)), .ref (ad b0)]) (C := RX2) (T := TX2) (N := 36) X h hf (fun res hres => wX2_rowAt l Γ ad _ b0 a2 x24 res hres) rfl (cwV 2 X.hts (lw_V q1207 q1209 qs39 q84 q1210) rfl rfl rfl (by decide +kernel) ⟨Nat.le_of_ble_eq_true rfl, Nat.le_of_ble_eq_true rfl⟩) rfl ⟨hl.1, Nat.le_of_ble_eq_true rfl, Nat.le_of_ble_eq_true rfl, Nat.le_of_ble_eq_true rfl⟩ rfl dX2_duet_120 (fun x29 μ30 H locs hf h => ?_)
      refine r_cVI (As := [.int (1 + (x24 - x24 / 2 * 2)), .int x29]) (rest := []) (C := RX2) (T := TX2) (N := 36) X h hf (fun res hres => wX2_canPlay l Γ ad _ b0 (1 + (x24 - x24 / 2 * 2)) x29 res hres) rfl (cwV 2 X.hts (lw_V q1293 q1295 qs50 q84 q1296) rfl rfl rfl (by decide +kernel) ⟨Nat.le_of_ble_eq_true rfl, Nat.le_of_ble_eq_true rfl⟩) rfl ⟨hl.1, Nat.le_of_ble_eq_true rfl, Nat.le_of_ble_eq_true rfl, Nat.le_of_ble_eq_true rfl⟩ rfl dX2_duet_123 (fun x31 μ32 H locs hf h => ?_)
      refine lv_if_eq (tgt := 152) X.hx X.hb dX2_duet_126 (by decide) (fun hc => ?_) (fun hc => ?_)
      · replace hf := gif_t hf hc
        clear hc
        refine lv_iload X.hx X.hb dX2_duet_152 (lv_at hl 2 rfl) ?_
        exact r_ri X h hr hlk (Nat.le_of_ble_eq_true rfl) (Nat.le_of_ble_eq_true rfl) dX2_duet_154 hf
      · replace hf := gif_f hf hc
        clear hc
        refine lv_aload_n X.hx X.hb dX2_duet_129 rfl (lv_at hl 0 rfl) ?_
        refine lv_iconst (v := 1) X.hx X.hb dX2_duet_130 (by decide) ?_
        refine lv_iload X.hx X.hb dX2_duet_131 (lv_at hl 2 rfl) ?_
        refine lv_iconst (v := 2) X.hx X.hb dX2_duet_133 (by decide) ?_
        refine lv_irem X.hx X.hb dX2_duet_134 (by decide) ?_
        refine lv_iadd X.hx X.hb dX2_duet_135 ?_
        refine lv_aload_n X.hx X.hb dX2_duet_136 rfl (lv_at hl 0 rfl) ?_
        refine lv_iload_n X.hx X.hb dX2_duet_137 rfl (lv_at hl 1 rfl) ?_
        refine lv_iload X.hx X.hb dX2_duet_138 (lv_at hl 2 rfl) ?_
        refine r_cVI (As := [.int a2, .int x24]) (rest := [.int (1 + (x24 - x24 / 2 * 2)), .ref (ad b0)]) (C := RX2) (T := TX2) (N := 36) X h hf (fun res hres => wX2_rowAt l Γ ad _ b0 a2 x24 res hres) rfl (cwV 2 X.hts (lw_V q1207 q1209 qs39 q84 q1210) rfl rfl rfl (by decide +kernel) ⟨Nat.le_of_ble_eq_true rfl, Nat.le_of_ble_eq_true rfl⟩) rfl ⟨hl.1, Nat.le_of_ble_eq_true rfl, Nat.le_of_ble_eq_true rfl, Nat.le_of_ble_eq_true rfl⟩ rfl dX2_duet_140 (fun x33 μ34 H locs hf h => ?_)
        refine r_cVV (As := [.int (1 + (x24 - x24 / 2 * 2)), .int x33]) (rest := []) (C := RX2) (T := TX2) (N := 36) X h hf (fun res hres => wX2_plays l Γ ad _ b0 (1 + (x24 - x24 / 2 * 2)) x33 res hres) rfl (cwV 2 X.hts (lw_V q1330 q1332 qs54 q84 q1333) rfl rfl rfl (by decide +kernel) ⟨Nat.le_of_ble_eq_true rfl, Nat.le_of_ble_eq_true rfl⟩) rfl ⟨hl.1, Nat.le_of_ble_eq_true rfl, Nat.le_of_ble_eq_true rfl, Nat.le_of_ble_eq_true rfl⟩ rfl dX2_duet_143 (fun μ35 H locs hf h => ?_)
        refine r_nmk hf (fun x36 ex hf => ?_)
        refine lv_iinc (v := x36) (lv' := [(4, .int x36), (0, .ref (ad b0)), (2, .int a2)]) X.hx X.hb dX2_duet_146 hl (k := 2) rfl (by rw [ex]; rfl) (by decide) rfl (fun ls hl => ?_)
        clear ex
        refine lv_goto (tgt := 98) X.hx X.hb dX2_duet_149 (by decide) ?_
        exact ih _ _ _ _ _ hf h (lv_sub hl [1, 2, 0] rfl)
def fX2_duet (μ0 : gM) (b0 : Nat) (a1 : Int32) (a2 : Int32) : gR := cI (fX2_in μ0 a1 0 2) fun x1 μ2 => if x1 = 0 then (some (some (.int (-1)), μ2)) else (cI (fX2_isRow μ2 a2) fun x3 μ4 => if x3 = 0 then (some (some (.int (-1)), μ4)) else (gP (gfld μ4 b0 2 5) fun i5 => gaI μ4 0 i5 a2 fun x6 => gjn (fun  (μ7 : gM) => gis μ7 b0 2 <| cI (fX2_meets μ7 b0 1) fun x9 μ10 => some (some (.int x9), μ10)) fun j8 => if x6 < 0 then (j8 μ4) else (gP (gfld μ4 b0 2 23) fun i11 => gaI μ4 2 i11 a1 fun x12 => if x12 = 0 then (j8 μ4) else (gis μ4 b0 2 <| cI (fX2_pieceOf μ4 b0 a2) fun x13 μ14 => if 0 ≤ x13 then (gis μ14 b0 2 <| cV (fX2_copyTo μ14 b0 0 1) fun μ15 => fX2_duet_L63 b0 a1 a2 (fun (μ23 : gM) => fX2_duet_L98 b0 a2 10000 0 μ23) 10000 0 μ15) else (some (some (.int x13), μ14))))))
set_option maxHeartbeats 4000000 in
theorem wX2_duet (l : Launch) (Γ : gG) (ad : Nat → Nat) (μ0 : gM) (b0 : Nat) (a1 : Int32) (a2 : Int32) (r : Option Value × gM) (hf : fX2_duet μ0 b0 a1 a2 = some r) : gMt0 l Γ yX2_duet (ws_ yX2_duet cX2_duet 5 (some .int)) ({ frames := 3, cells := 0, slots := 0, locals := 70 } : Room) 0 0 ad μ0 [.ref (ad b0), .int a1, .int a2] r := by
  intro sz
  refine g_start (maxL := 5) (ret := (some .int)) (by decide) rfl g_all (Nat.le_of_ble_eq_true rfl) ?_
  intro p e s m below meth c ls hr hlk hnm X h hl
  generalize gA ad μ0 sz = A at X h ⊢
  generalize ([.ref (ad b0), .int a1, .int a2] : List Value).toArray = args at X ⊢
  have X : gX p m c cX2_duet 5 s args "SandPianoModel" Γ A := X
  have hl : lv_has ls 5 [(0, .ref (ad b0)), (1, .int a1), (2, .int a2)] := hl
  show W p l e ({ frames := 3, cells := 0, slots := 0, locals := 70 } : Room) s m args below meth c s.heap [] 0 0 (MQ below (gQ0 Γ ad μ0.1 r A) args s 0 0 A) (F0 m 0 ls [])
  unfold fX2_duet at hf
  refine lv_iload_n X.hx X.hb dX2_duet_0 rfl (lv_at hl 1 rfl) ?_
  refine lv_iconst (v := 0) X.hx X.hb dX2_duet_1 (by decide) ?_
  refine lv_iconst (v := 2) X.hx X.hb dX2_duet_2 (by decide) ?_
  refine r_cSI (As := [.int a1, .int 0, .int 2]) (rest := []) X h hf (fun res hres => wX2_in l Γ ad _ a1 0 2 res hres) (va_cwS 3 X.hts (lw_S q1177 q1178 q84 q1179) rfl rfl rfl (by decide +kernel) ⟨Nat.le_of_ble_eq_true rfl, Nat.le_of_ble_eq_true rfl⟩) rfl ⟨hl.1, Nat.le_of_ble_eq_true rfl, Nat.le_of_ble_eq_true rfl, Nat.le_of_ble_eq_true rfl⟩ rfl dX2_duet_3 (fun x1 μ2 H locs hf h => ?_)
  refine lv_if_eq (tgt := 16) X.hx X.hb dX2_duet_6 (by decide) (fun hc => ?_) (fun hc => ?_)
  · replace hf := gif_t hf hc
    clear hc
    refine lv_iconst (v := (-1)) X.hx X.hb dX2_duet_16 (by decide) ?_
    exact r_ri X h hr hlk (Nat.le_of_ble_eq_true rfl) (Nat.le_of_ble_eq_true rfl) dX2_duet_17 hf
  · replace hf := gif_f hf hc
    clear hc
    refine lv_iload_n X.hx X.hb dX2_duet_9 rfl (lv_at hl 2 rfl) ?_
    refine r_cSI (As := [.int a2]) (rest := []) X h hf (fun res hres => wX2_isRow l Γ ad _ a2 res hres) (va_cwS 1 X.hts (lw_S q1196 q1197 q84 q1198) rfl rfl rfl (by decide +kernel) ⟨Nat.le_of_ble_eq_true rfl, Nat.le_of_ble_eq_true rfl⟩) rfl ⟨hl.1, Nat.le_of_ble_eq_true rfl, Nat.le_of_ble_eq_true rfl, Nat.le_of_ble_eq_true rfl⟩ rfl dX2_duet_10 (fun x3 μ4 H locs hf h => ?_)
    refine lv_if_ne (tgt := 18) X.hx X.hb dX2_duet_13 (by decide) (fun hc => ?_) (fun hc => ?_)
    · replace hf := gif_f hf hc
      clear hc
      refine lv_aload_n X.hx X.hb dX2_duet_18 rfl (lv_at hl 0 rfl) ?_
      refine r_getP X h (ci := 2) (k := 5) (C := RX2) (T := TX2) (N := 36) rfl in_X2 (by decide) q1064 rfl dX2_duet_19 hf (fun i5 hf => ?_)
      refine lv_iload_n X.hx X.hb dX2_duet_22 rfl (lv_at hl 2 rfl) ?_
      refine r_iald X h dX2_duet_23 hf (fun x6 hf => ?_)
      refine r_jn hf (fun j8 ej8 hf => ?_)
      have hj8 : ∀  (μ7 : gM) (H : Heap) (locs : List Loc) (ls : Array Slot), j8  μ7 = some r → gWd Γ A μ0.1 ad μ7 s.heap H locs → lv_has ls 5 [(0, .ref (ad b0))] → W p l e ({ frames := 3, cells := 0, slots := 0, locals := 70 } : Room) s m args below meth c H locs 0 0 (MQ below (gQ0 Γ ad μ0.1 r A) args s 0 0 A) (F0 m 36 ls []) := by
        intro μ7 H locs ls hf h hl
        rw [ej8] at hf
        refine lv_aload_n X.hx X.hb dX2_duet_36 rfl (lv_at hl 0 rfl) ?_
        refine lv_iconst (v := 1) X.hx X.hb dX2_duet_37 (by decide) ?_
        refine r_cVI (As := [.int 1]) (rest := []) (C := RX2) (T := TX2) (N := 36) X h hf (fun res hres => wX2_meets l Γ ad _ b0 1 res hres) rfl (cwV 1 X.hts (lw_V q1199 q1201 qs38 q84 q1202) rfl rfl rfl (by decide +kernel) ⟨Nat.le_of_ble_eq_true rfl, Nat.le_of_ble_eq_true rfl⟩) rfl ⟨hl.1, Nat.le_of_ble_eq_true rfl, Nat.le_of_ble_eq_true rfl, Nat.le_of_ble_eq_true rfl⟩ rfl dX2_duet_38 (fun x9 μ10 H locs hf h => ?_)
        exact r_ri X h hr hlk (Nat.le_of_ble_eq_true rfl) (Nat.le_of_ble_eq_true rfl) dX2_duet_41 hf
      clear ej8
      refine lv_if_lt (tgt := 36) X.hx X.hb dX2_duet_24 (by decide) (fun hc => ?_) (fun hc => ?_)
      · replace hf := gif_t hf hc
        clear hc
        exact hj8 _ _ _ _ hf h (lv_sub hl [0] rfl)
      · replace hf := gif_f hf hc
        clear hc
        refine lv_aload_n X.hx X.hb dX2_duet_27 rfl (lv_at hl 0 rfl) ?_
        refine r_getP X h (ci := 2) (k := 23) (C := RX2) (T := TX2) (N := 36) rfl in_X2 (by decide) q1082 rfl dX2_duet_28 hf (fun i11 hf => ?_)
        refine lv_iload_n X.hx X.hb dX2_duet_31 rfl (lv_at hl 1 rfl) ?_
        refine r_zald X h dX2_duet_32 hf (fun x12 hf => ?_)
        refine lv_if_ne (tgt := 42) X.hx X.hb dX2_duet_33 (by decide) (fun hc => ?_) (fun hc => ?_)
        · replace hf := gif_f hf hc
          clear hc
          refine lv_aload_n X.hx X.hb dX2_duet_42 rfl (lv_at hl 0 rfl) ?_
          refine lv_iload_n X.hx X.hb dX2_duet_43 rfl (lv_at hl 2 rfl) ?_
          refine r_cVI (As := [.int a2]) (rest := []) (C := RX2) (T := TX2) (N := 36) X h hf (fun res hres => wX2_pieceOf l Γ ad _ b0 a2 res hres) rfl (cwV 1 X.hts (lw_V q1394 q1396 qs62 q84 q1397) rfl rfl rfl (by decide +kernel) ⟨Nat.le_of_ble_eq_true rfl, Nat.le_of_ble_eq_true rfl⟩) rfl ⟨hl.1, Nat.le_of_ble_eq_true rfl, Nat.le_of_ble_eq_true rfl, Nat.le_of_ble_eq_true rfl⟩ rfl dX2_duet_44 (fun x13 μ14 H locs hf h => ?_)
          refine lv_istore_n (lv' := [(3, .int x13), (0, .ref (ad b0)), (1, .int a1), (2, .int a2)]) X.hx X.hb dX2_duet_47 rfl hl (by decide) rfl (fun ls hl => ?_)
          refine lv_iload_n X.hx X.hb dX2_duet_48 rfl (lv_at hl 0 rfl) ?_
          refine lv_if_ge (tgt := 54) X.hx X.hb dX2_duet_49 (by decide) (fun hc => ?_) (fun hc => ?_)
          · replace hf := gif_t hf hc
            clear hc
            refine lv_aload_n X.hx X.hb dX2_duet_54 rfl (lv_at hl 1 rfl) ?_
            refine lv_iconst (v := 0) X.hx X.hb dX2_duet_55 (by decide) ?_
            refine lv_iconst (v := 1) X.hx X.hb dX2_duet_56 (by decide) ?_
            refine r_cVV (As := [.int 0, .int 1]) (rest := []) (C := RX2) (T := TX2) (N := 36) X h hf (fun res hres => wX2_copyTo l Γ ad _ b0 0 1 res hres) rfl (cwV 2 X.hts (lw_V q1398 q1400 qs63 q84 q1401) rfl rfl rfl (by decide +kernel) ⟨Nat.le_of_ble_eq_true rfl, Nat.le_of_ble_eq_true rfl⟩) rfl ⟨hl.1, Nat.le_of_ble_eq_true rfl, Nat.le_of_ble_eq_true rfl, Nat.le_of_ble_eq_true rfl⟩ rfl dX2_duet_57 (fun μ15 H locs hf h => ?_)
            refine lv_iconst (v := 0) X.hx X.hb dX2_duet_60 (by decide) ?_
            refine lv_istore (lv' := [(4, .int 0), (3, .int x13), (0, .ref (ad b0)), (1, .int a1), (2, .int a2)]) X.hx X.hb dX2_duet_61 hl (by decide) rfl (fun ls hl => ?_)
            refine wX2_duet_L63 l b0 a1 a2 _ X hr hlk (fun μ23 H locs ls hf h hl => ?_) 10000 _ _ _ _ _ hf h (lv_sub hl [2, 3, 4, 0] rfl)
            refine lv_iconst (v := 0) X.hx X.hb dX2_duet_95 (by decide) ?_
            refine lv_istore (lv' := [(4, .int 0), (0, .ref (ad b0)), (2, .int a2)]) X.hx X.hb dX2_duet_96 hl (by decide) rfl (fun ls hl => ?_)
            refine wX2_duet_L98 l b0 a2 X hr hlk 10000 _ _ _ _ _ hf h (lv_sub hl [1, 2, 0] rfl)
          · replace hf := gif_f hf hc
            clear hc
            refine lv_iload_n X.hx X.hb dX2_duet_52 rfl (lv_at hl 0 rfl) ?_
            exact r_ri X h hr hlk (Nat.le_of_ble_eq_true rfl) (Nat.le_of_ble_eq_true rfl) dX2_duet_53 hf
        · replace hf := gif_t hf hc
          clear hc
          exact hj8 _ _ _ _ hf h (lv_sub hl [0] rfl)
    · replace hf := gif_t hf hc
      clear hc
      refine lv_iconst (v := (-1)) X.hx X.hb dX2_duet_16 (by decide) ?_
      exact r_ri X h hr hlk (Nat.le_of_ble_eq_true rfl) (Nat.le_of_ble_eq_true rfl) dX2_duet_17 hf
/-! X2_earns -/
def fX2_earns (μ0 : gM) (b0 : Nat) (a1 : Int32) : gR := cI (fX2_isRow μ0 a1) fun x1 μ2 => if x1 = 0 then (some (some (.int (-1)), μ2)) else (gis μ2 b0 2 <| cI (fX2_needPiece μ2 b0 a1) fun x3 μ4 => if 0 ≤ x3 then (gis μ4 b0 2 <| cV (fX2_copyTo μ4 b0 0 1) fun μ5 => gis μ5 b0 2 <| cI (fX2_firstAgainst μ5 b0 1 a1) fun x6 μ7 => gis μ7 b0 2 <| cI (fX2_v μ7 b0 1 8) fun x8 μ9 => gis μ9 b0 2 <| cI (fX2_v μ9 b0 0 8) fun x10 μ11 => some (some (.int (x8 - x10)), μ11)) else (some (some (.int x3), μ4)))
set_option maxHeartbeats 4000000 in
theorem wX2_earns (l : Launch) (Γ : gG) (ad : Nat → Nat) (μ0 : gM) (b0 : Nat) (a1 : Int32) (r : Option Value × gM) (hf : fX2_earns μ0 b0 a1 = some r) : gMt0 l Γ yX2_earns (ws_ yX2_earns cX2_earns 3 (some .int)) ({ frames := 4, cells := 0, slots := 0, locals := 93 } : Room) 0 0 ad μ0 [.ref (ad b0), .int a1] r := by
  intro sz
  refine g_start (maxL := 3) (ret := (some .int)) (by decide) rfl g_all (Nat.le_of_ble_eq_true rfl) ?_
  intro p e s m below meth c ls hr hlk hnm X h hl
  generalize gA ad μ0 sz = A at X h ⊢
  generalize ([.ref (ad b0), .int a1] : List Value).toArray = args at X ⊢
  have X : gX p m c cX2_earns 3 s args "SandPianoModel" Γ A := X
  have hl : lv_has ls 3 [(0, .ref (ad b0)), (1, .int a1)] := hl
  show W p l e ({ frames := 4, cells := 0, slots := 0, locals := 93 } : Room) s m args below meth c s.heap [] 0 0 (MQ below (gQ0 Γ ad μ0.1 r A) args s 0 0 A) (F0 m 0 ls [])
  unfold fX2_earns at hf
  refine lv_iload_n X.hx X.hb dX2_earns_0 rfl (lv_at hl 1 rfl) ?_
  refine r_cSI (As := [.int a1]) (rest := []) X h hf (fun res hres => wX2_isRow l Γ ad _ a1 res hres) (va_cwS 1 X.hts (lw_S q1196 q1197 q84 q1198) rfl rfl rfl (by decide +kernel) ⟨Nat.le_of_ble_eq_true rfl, Nat.le_of_ble_eq_true rfl⟩) rfl ⟨hl.1, Nat.le_of_ble_eq_true rfl, Nat.le_of_ble_eq_true rfl, Nat.le_of_ble_eq_true rfl⟩ rfl dX2_earns_1 (fun x1 μ2 H locs hf h => ?_)
  refine lv_if_ne (tgt := 9) X.hx X.hb dX2_earns_4 (by decide) (fun hc => ?_) (fun hc => ?_)
  · replace hf := gif_f hf hc
    clear hc
    refine lv_aload_n X.hx X.hb dX2_earns_9 rfl (lv_at hl 0 rfl) ?_
    refine lv_iload_n X.hx X.hb dX2_earns_10 rfl (lv_at hl 1 rfl) ?_
    refine r_cVI (As := [.int a1]) (rest := []) (C := RX2) (T := TX2) (N := 36) X h hf (fun res hres => wX2_needPiece l Γ ad _ b0 a1 res hres) rfl (cwV 1 X.hts (lw_V q1390 q1392 qs61 q84 q1393) rfl rfl rfl (by decide +kernel) ⟨Nat.le_of_ble_eq_true rfl, Nat.le_of_ble_eq_true rfl⟩) rfl ⟨hl.1, Nat.le_of_ble_eq_true rfl, Nat.le_of_ble_eq_true rfl, Nat.le_of_ble_eq_true rfl⟩ rfl dX2_earns_11 (fun x3 μ4 H locs hf h => ?_)
    refine lv_istore_n (lv' := [(2, .int x3), (0, .ref (ad b0)), (1, .int a1)]) X.hx X.hb dX2_earns_14 rfl hl (by decide) rfl (fun ls hl => ?_)
    refine lv_iload_n X.hx X.hb dX2_earns_15 rfl (lv_at hl 0 rfl) ?_
    refine lv_if_ge (tgt := 21) X.hx X.hb dX2_earns_16 (by decide) (fun hc => ?_) (fun hc => ?_)
    · replace hf := gif_t hf hc
      clear hc
      refine lv_aload_n X.hx X.hb dX2_earns_21 rfl (lv_at hl 1 rfl) ?_
      refine lv_iconst (v := 0) X.hx X.hb dX2_earns_22 (by decide) ?_
      refine lv_iconst (v := 1) X.hx X.hb dX2_earns_23 (by decide) ?_
      refine r_cVV (As := [.int 0, .int 1]) (rest := []) (C := RX2) (T := TX2) (N := 36) X h hf (fun res hres => wX2_copyTo l Γ ad _ b0 0 1 res hres) rfl (cwV 2 X.hts (lw_V q1398 q1400 qs63 q84 q1401) rfl rfl rfl (by decide +kernel) ⟨Nat.le_of_ble_eq_true rfl, Nat.le_of_ble_eq_true rfl⟩) rfl ⟨hl.1, Nat.le_of_ble_eq_true rfl, Nat.le_of_ble_eq_true rfl, Nat.le_of_ble_eq_true rfl⟩ rfl dX2_earns_24 (fun μ5 H locs hf h => ?_)
      refine lv_aload_n X.hx X.hb dX2_earns_27 rfl (lv_at hl 1 rfl) ?_
      refine lv_iconst (v := 1) X.hx X.hb dX2_earns_28 (by decide) ?_
      refine lv_iload_n X.hx X.hb dX2_earns_29 rfl (lv_at hl 2 rfl) ?_
      refine r_cVI (As := [.int 1, .int a1]) (rest := []) (C := RX2) (T := TX2) (N := 36) X h hf (fun res hres => wX2_firstAgainst l Γ ad _ b0 1 a1 res hres) rfl (cwV 2 X.hts (lw_V q1402 q1404 qs64 q84 q1405) rfl rfl rfl (by decide +kernel) ⟨Nat.le_of_ble_eq_true rfl, Nat.le_of_ble_eq_true rfl⟩) rfl ⟨hl.1, Nat.le_of_ble_eq_true rfl, Nat.le_of_ble_eq_true rfl, Nat.le_of_ble_eq_true rfl⟩ rfl dX2_earns_30 (fun x6 μ7 H locs hf h => ?_)
      refine lv_pop X.hx X.hb dX2_earns_33 rfl ?_
      refine lv_aload_n X.hx X.hb dX2_earns_34 rfl (lv_at hl 1 rfl) ?_
      refine lv_iconst (v := 1) X.hx X.hb dX2_earns_35 (by decide) ?_
      refine lv_bipush (v := 8) X.hx X.hb dX2_earns_36 (by decide) ?_
      refine r_cVI (As := [.int 1, .int 8]) (rest := []) (C := RX2) (T := TX2) (N := 36) X h hf (fun res hres => wX2_v l Γ ad _ b0 1 8 res hres) rfl (cwV 2 X.hts (lw_V q1289 q1291 qs49 q84 q1292) rfl rfl rfl (by decide +kernel) ⟨Nat.le_of_ble_eq_true rfl, Nat.le_of_ble_eq_true rfl⟩) rfl ⟨hl.1, Nat.le_of_ble_eq_true rfl, Nat.le_of_ble_eq_true rfl, Nat.le_of_ble_eq_true rfl⟩ rfl dX2_earns_38 (fun x8 μ9 H locs hf h => ?_)
      refine lv_aload_n X.hx X.hb dX2_earns_41 rfl (lv_at hl 1 rfl) ?_
      refine lv_iconst (v := 0) X.hx X.hb dX2_earns_42 (by decide) ?_
      refine lv_bipush (v := 8) X.hx X.hb dX2_earns_43 (by decide) ?_
      refine r_cVI (As := [.int 0, .int 8]) (rest := [.int x8]) (C := RX2) (T := TX2) (N := 36) X h hf (fun res hres => wX2_v l Γ ad _ b0 0 8 res hres) rfl (cwV 2 X.hts (lw_V q1289 q1291 qs49 q84 q1292) rfl rfl rfl (by decide +kernel) ⟨Nat.le_of_ble_eq_true rfl, Nat.le_of_ble_eq_true rfl⟩) rfl ⟨hl.1, Nat.le_of_ble_eq_true rfl, Nat.le_of_ble_eq_true rfl, Nat.le_of_ble_eq_true rfl⟩ rfl dX2_earns_45 (fun x10 μ11 H locs hf h => ?_)
      refine lv_isub X.hx X.hb dX2_earns_48 ?_
      exact r_ri X h hr hlk (Nat.le_of_ble_eq_true rfl) (Nat.le_of_ble_eq_true rfl) dX2_earns_49 hf
    · replace hf := gif_f hf hc
      clear hc
      refine lv_iload_n X.hx X.hb dX2_earns_19 rfl (lv_at hl 0 rfl) ?_
      exact r_ri X h hr hlk (Nat.le_of_ble_eq_true rfl) (Nat.le_of_ble_eq_true rfl) dX2_earns_20 hf
  · replace hf := gif_t hf hc
    clear hc
    refine lv_iconst (v := (-1)) X.hx X.hb dX2_earns_7 (by decide) ?_
    exact r_ri X h hr hlk (Nat.le_of_ble_eq_true rfl) (Nat.le_of_ble_eq_true rfl) dX2_earns_8 hf
