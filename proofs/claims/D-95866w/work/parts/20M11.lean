set_option maxRecDepth 100000
/-! X2_strike -/
def fX2_strike_L59 (b0 : Nat) (x5 : Int32) (x7 : Int32) (x8 : Int32) (x9 : Int32) (kx103 : Int32 → gM → gR) : Nat → Int32 → Int32 → gM → gR
  | 0, _, _, _ => none
  | n16 + 1, x13, x14, μ15 => gI (gfld μ15 b0 2 11) fun x17 => if x17 ≤ x14 then (kx103 x13 μ15) else (cI (fX2_has μ15 x5 x14) fun x18 μ19 => gjn (fun (x20 : Int32) (μ21 : gM) => gnm ((x13 + x20)) fun x23 => gnm (x14 + 1) fun x24 => fX2_strike_L59 b0 x5 x7 x8 x9 kx103 n16 x23 x24 μ21) fun j22 => gjn (fun  (μ25 : gM) => j22 0 μ25) fun j26 => if x18 = 0 then (j26 μ19) else (cI (fX2_sings μ19 x9 x14) fun x27 μ28 => if x27 = 0 then (j26 μ28) else (j22 1 μ28)))
set_option maxHeartbeats 4000000 in
theorem wX2_strike_L59 {p : Program} {e : Env} {s : State} {m : MethodId} {args : Array Value} {below : List Frame} {meth : Method} {c : Code} {Γ : gG} {A : Nat → Prop} {nz : Nat} {ad : Nat → Nat} {r : Option Value × gM} (l : Launch) (b0 : Nat) (x5 : Int32) (x7 : Int32) (x8 : Int32) (x9 : Int32) (kx103 : Int32 → gM → gR) (X : gX p m c cX2_strike 9 s args "SandPianoModel" Γ A) (hr : meth.sig.returnType = (some .int)) (hlk : meth.locks = false) (hk103 : ∀ (x29 : Int32) (μ : gM) (H : Heap) (locs : List Loc) (ls : Array Slot), kx103 x29 μ = some r → gWd Γ A nz ad μ s.heap H locs → lv_has ls 9 [(0, .ref (ad b0)), (3, .int x5), (4, .int x7), (5, .int x8), (6, .int x9), (7, .int x29)] → W p l e ({ frames := 3, cells := 0, slots := 0, locals := 68 } : Room) s m args below meth c H locs 0 0 (MQ below (gQ0 Γ ad nz r A) args s 0 0 A) (F0 m 103 ls [])) : ∀ (n16 : Nat) (x13 : Int32) (x14 : Int32) (μ15 : gM) (H : Heap) (locs : List Loc) (ls : Array Slot), fX2_strike_L59 b0 x5 x7 x8 x9 kx103 n16 x13 x14 μ15 = some r → gWd Γ A nz ad μ15 s.heap H locs → lv_has ls 9 [(0, .ref (ad b0)), (3, .int x5), (4, .int x7), (5, .int x8), (6, .int x9), (7, .int x13), (8, .int x14)] → W p l e ({ frames := 3, cells := 0, slots := 0, locals := 68 } : Room) s m args below meth c H locs 0 0 (MQ below (gQ0 Γ ad nz r A) args s 0 0 A) (F0 m 59 ls []) := by
  intro n16
  induction n16 with
  | zero =>
    intro x13 x14 μ15 H locs ls hf h hl
    have hf : (none : gR) = some r := hf
    cases hf
  | succ n16 ih =>
    intro x13 x14 μ15 H locs ls hf h hl
    rw [fX2_strike_L59] at hf
    refine lv_iload X.hx X.hb dX2_strike_59 (lv_at hl 6 rfl) ?_
    refine lv_aload_n X.hx X.hb dX2_strike_61 rfl (lv_at hl 0 rfl) ?_
    refine r_getI X h (ci := 2) (k := 11) (C := RX2) (T := TX2) (N := 36) rfl in_X2 (by decide) q1070 rfl dX2_strike_62 hf (fun x17 hf => ?_)
    refine lv_icmp_ge (tgt := 103) X.hx X.hb dX2_strike_65 (by decide) (fun hc => ?_) (fun hc => ?_)
    · replace hf := gif_t hf hc
      clear hc
      exact hk103 _ _ _ _ _ hf h (lv_sub hl [0, 1, 2, 3, 4, 5] rfl)
    · replace hf := gif_f hf hc
      clear hc
      refine lv_iload X.hx X.hb dX2_strike_68 (lv_at hl 5 rfl) ?_
      refine lv_iload_n X.hx X.hb dX2_strike_70 rfl (lv_at hl 1 rfl) ?_
      refine lv_iload X.hx X.hb dX2_strike_71 (lv_at hl 6 rfl) ?_
      refine r_cSI (As := [.int x5, .int x14]) (rest := [.int x13]) X h hf (fun res hres => wX2_has l Γ ad _ x5 x14 res hres) (va_cwS 2 X.hts (lw_S q1442 q1443 q84 q1444) rfl rfl rfl (by decide +kernel) ⟨Nat.le_of_ble_eq_true rfl, Nat.le_of_ble_eq_true rfl⟩) rfl ⟨hl.1, Nat.le_of_ble_eq_true rfl, Nat.le_of_ble_eq_true rfl, Nat.le_of_ble_eq_true rfl⟩ rfl dX2_strike_73 (fun x18 μ19 H locs hf h => ?_)
      refine r_jn hf (fun j22 ej22 hf => ?_)
      have hj22 : ∀ (x20 : Int32) (μ21 : gM) (H : Heap) (locs : List Loc) (ls : Array Slot), j22 x20 μ21 = some r → gWd Γ A nz ad μ21 s.heap H locs → lv_has ls 9 [(0, .ref (ad b0)), (3, .int x5), (4, .int x7), (5, .int x8), (6, .int x9), (8, .int x14)] → W p l e ({ frames := 3, cells := 0, slots := 0, locals := 68 } : Room) s m args below meth c H locs 0 0 (MQ below (gQ0 Γ ad nz r A) args s 0 0 A) (F0 m 94 ls [.int x20, .int x13]) := by
        intro x20 μ21 H locs ls hf h hl
        rw [ej22] at hf
        refine lv_iadd X.hx X.hb dX2_strike_94 ?_
        refine r_nmI hf (fun x23 hf => ?_)
        refine lv_istore (lv' := [(7, .int x23), (0, .ref (ad b0)), (3, .int x5), (4, .int x7), (5, .int x8), (6, .int x9), (8, .int x14)]) X.hx X.hb dX2_strike_95 hl (by decide) rfl (fun ls hl => ?_)
        refine r_nmk hf (fun x24 ex hf => ?_)
        refine lv_iinc (v := x24) (lv' := [(8, .int x24), (7, .int x23), (0, .ref (ad b0)), (3, .int x5), (4, .int x7), (5, .int x8), (6, .int x9)]) X.hx X.hb dX2_strike_97 hl (k := 6) rfl (by rw [ex]; rfl) (by decide) rfl (fun ls hl => ?_)
        clear ex
        refine lv_goto (tgt := 59) X.hx X.hb dX2_strike_100 (by decide) ?_
        exact ih _ _ _ _ _ _ hf h (lv_sub hl [2, 3, 4, 5, 6, 1, 0] rfl)
      clear ej22
      refine r_jn hf (fun j26 ej26 hf => ?_)
      have hj26 : ∀  (μ25 : gM) (H : Heap) (locs : List Loc) (ls : Array Slot), j26  μ25 = some r → gWd Γ A nz ad μ25 s.heap H locs → lv_has ls 9 [(0, .ref (ad b0)), (3, .int x5), (4, .int x7), (5, .int x8), (6, .int x9), (8, .int x14)] → W p l e ({ frames := 3, cells := 0, slots := 0, locals := 68 } : Room) s m args below meth c H locs 0 0 (MQ below (gQ0 Γ ad nz r A) args s 0 0 A) (F0 m 93 ls [.int x13]) := by
        intro μ25 H locs ls hf h hl
        rw [ej26] at hf
        refine lv_iconst (v := 0) X.hx X.hb dX2_strike_93 (by decide) ?_
        exact hj22 _ _ _ _ _ hf h (lv_sub hl [0, 1, 2, 3, 4, 5] rfl)
      clear ej26
      refine lv_if_eq (tgt := 93) X.hx X.hb dX2_strike_76 (by decide) (fun hc => ?_) (fun hc => ?_)
      · replace hf := gif_t hf hc
        clear hc
        exact hj26 _ _ _ _ hf h (lv_sub hl [0, 1, 2, 3, 4, 6] rfl)
      · replace hf := gif_f hf hc
        clear hc
        refine lv_iload X.hx X.hb dX2_strike_79 (lv_at hl 4 rfl) ?_
        refine lv_iload X.hx X.hb dX2_strike_81 (lv_at hl 6 rfl) ?_
        refine r_cSI (As := [.int x9, .int x14]) (rest := [.int x13]) X h hf (fun res hres => wX2_sings l Γ ad _ x9 x14 res hres) (va_cwS 2 X.hts (lw_S q1489 q1490 q84 q1491) rfl rfl rfl (by decide +kernel) ⟨Nat.le_of_ble_eq_true rfl, Nat.le_of_ble_eq_true rfl⟩) rfl ⟨hl.1, Nat.le_of_ble_eq_true rfl, Nat.le_of_ble_eq_true rfl, Nat.le_of_ble_eq_true rfl⟩ rfl dX2_strike_83 (fun x27 μ28 H locs hf h => ?_)
        refine lv_if_eq (tgt := 93) X.hx X.hb dX2_strike_86 (by decide) (fun hc => ?_) (fun hc => ?_)
        · replace hf := gif_t hf hc
          clear hc
          exact hj26 _ _ _ _ hf h (lv_sub hl [0, 1, 2, 3, 4, 6] rfl)
        · replace hf := gif_f hf hc
          clear hc
          refine lv_iconst (v := 1) X.hx X.hb dX2_strike_89 (by decide) ?_
          refine lv_goto (tgt := 94) X.hx X.hb dX2_strike_90 (by decide) ?_
          exact hj22 _ _ _ _ _ hf h (lv_sub hl [0, 1, 2, 3, 4, 6] rfl)
def fX2_strike_L44 (b0 : Nat) (x5 : Int32) (kx145 : Int32 → Int32 → gM → gR) : Nat → Int32 → Int32 → Int32 → gM → gR
  | 0, _, _, _, _ => none
  | n11 + 1, x7, x8, x9, μ10 => gI (gfld μ10 b0 2 11) fun x12 => if x12 ≤ x9 then (kx145 x7 x8 μ10) else (fX2_strike_L59 b0 x5 x7 x8 x9 (fun (x30 : Int32) (μ31 : gM) => cI (fX2_bits μ31 x5) fun x32 μ33 => cI (fX2_greater μ33 x30 (x32 - x30)) fun x34 μ35 => gjn (fun (x36 : Int32) (x37 : Int32) (μ38 : gM) => gnm (x9 + 1) fun x40 => fX2_strike_L44 b0 x5 kx145 n11 x36 x37 x40 μ38) fun j39 => gjn (fun (μ41 : gM) => j39 x9 x34 μ41) fun j42 => if x7 = (-9) then (j42 μ35) else (if x8 ≤ x34 then (j39 x7 x8 μ35) else (j42 μ35))) 10000 0 0 μ10)
set_option maxHeartbeats 4000000 in
theorem wX2_strike_L44 {p : Program} {e : Env} {s : State} {m : MethodId} {args : Array Value} {below : List Frame} {meth : Method} {c : Code} {Γ : gG} {A : Nat → Prop} {nz : Nat} {ad : Nat → Nat} {r : Option Value × gM} (l : Launch) (b0 : Nat) (x5 : Int32) (kx145 : Int32 → Int32 → gM → gR) (X : gX p m c cX2_strike 9 s args "SandPianoModel" Γ A) (hr : meth.sig.returnType = (some .int)) (hlk : meth.locks = false) (hk145 : ∀ (x43 : Int32) (x44 : Int32) (μ : gM) (H : Heap) (locs : List Loc) (ls : Array Slot), kx145 x43 x44 μ = some r → gWd Γ A nz ad μ s.heap H locs → lv_has ls 9 [(0, .ref (ad b0)), (4, .int x43), (5, .int x44)] → W p l e ({ frames := 3, cells := 0, slots := 0, locals := 68 } : Room) s m args below meth c H locs 0 0 (MQ below (gQ0 Γ ad nz r A) args s 0 0 A) (F0 m 145 ls [])) : ∀ (n11 : Nat) (x7 : Int32) (x8 : Int32) (x9 : Int32) (μ10 : gM) (H : Heap) (locs : List Loc) (ls : Array Slot), fX2_strike_L44 b0 x5 kx145 n11 x7 x8 x9 μ10 = some r → gWd Γ A nz ad μ10 s.heap H locs → lv_has ls 9 [(0, .ref (ad b0)), (3, .int x5), (4, .int x7), (5, .int x8), (6, .int x9)] → W p l e ({ frames := 3, cells := 0, slots := 0, locals := 68 } : Room) s m args below meth c H locs 0 0 (MQ below (gQ0 Γ ad nz r A) args s 0 0 A) (F0 m 44 ls []) := by
  intro n11
  induction n11 with
  | zero =>
    intro x7 x8 x9 μ10 H locs ls hf h hl
    have hf : (none : gR) = some r := hf
    cases hf
  | succ n11 ih =>
    intro x7 x8 x9 μ10 H locs ls hf h hl
    rw [fX2_strike_L44] at hf
    refine lv_iload X.hx X.hb dX2_strike_44 (lv_at hl 4 rfl) ?_
    refine lv_aload_n X.hx X.hb dX2_strike_46 rfl (lv_at hl 0 rfl) ?_
    refine r_getI X h (ci := 2) (k := 11) (C := RX2) (T := TX2) (N := 36) rfl in_X2 (by decide) q1070 rfl dX2_strike_47 hf (fun x12 hf => ?_)
    refine lv_icmp_ge (tgt := 145) X.hx X.hb dX2_strike_50 (by decide) (fun hc => ?_) (fun hc => ?_)
    · replace hf := gif_t hf hc
      clear hc
      exact hk145 _ _ _ _ _ _ hf h (lv_sub hl [0, 2, 3] rfl)
    · replace hf := gif_f hf hc
      clear hc
      refine lv_iconst (v := 0) X.hx X.hb dX2_strike_53 (by decide) ?_
      refine lv_istore (lv' := [(7, .int 0), (0, .ref (ad b0)), (3, .int x5), (4, .int x7), (5, .int x8), (6, .int x9)]) X.hx X.hb dX2_strike_54 hl (by decide) rfl (fun ls hl => ?_)
      refine lv_iconst (v := 0) X.hx X.hb dX2_strike_56 (by decide) ?_
      refine lv_istore (lv' := [(8, .int 0), (7, .int 0), (0, .ref (ad b0)), (3, .int x5), (4, .int x7), (5, .int x8), (6, .int x9)]) X.hx X.hb dX2_strike_57 hl (by decide) rfl (fun ls hl => ?_)
      refine wX2_strike_L59 l b0 x5 x7 x8 x9 _ X hr hlk (fun x30 μ31 H locs ls hf h hl => ?_) 10000 _ _ _ _ _ _ hf h (lv_sub hl [2, 3, 4, 5, 6, 1, 0] rfl)
      refine lv_iload X.hx X.hb dX2_strike_103 (lv_at hl 5 rfl) ?_
      refine lv_iload_n X.hx X.hb dX2_strike_105 rfl (lv_at hl 1 rfl) ?_
      refine r_cSI (As := [.int x5]) (rest := [.int x30]) X h hf (fun res hres => wX2_bits l Γ ad _ x5 res hres) (va_cwS 1 X.hts (lw_S q1315 q1316 q84 q1317) rfl rfl rfl (by decide +kernel) ⟨Nat.le_of_ble_eq_true rfl, Nat.le_of_ble_eq_true rfl⟩) rfl ⟨hl.1, Nat.le_of_ble_eq_true rfl, Nat.le_of_ble_eq_true rfl, Nat.le_of_ble_eq_true rfl⟩ rfl dX2_strike_106 (fun x32 μ33 H locs hf h => ?_)
      refine lv_iload X.hx X.hb dX2_strike_109 (lv_at hl 5 rfl) ?_
      refine lv_isub X.hx X.hb dX2_strike_111 ?_
      refine r_cSI (As := [.int x30, .int (x32 - x30)]) (rest := []) X h hf (fun res hres => wX2_greater l Γ ad _ x30 (x32 - x30) res hres) (va_cwS 2 X.hts (lw_S q1304 q1305 q84 q1306) rfl rfl rfl (by decide +kernel) ⟨Nat.le_of_ble_eq_true rfl, Nat.le_of_ble_eq_true rfl⟩) rfl ⟨hl.1, Nat.le_of_ble_eq_true rfl, Nat.le_of_ble_eq_true rfl, Nat.le_of_ble_eq_true rfl⟩ rfl dX2_strike_112 (fun x34 μ35 H locs hf h => ?_)
      refine lv_istore (lv' := [(8, .int x34), (0, .ref (ad b0)), (3, .int x5), (4, .int x7), (5, .int x8), (6, .int x9), (7, .int x30)]) X.hx X.hb dX2_strike_115 hl (by decide) rfl (fun ls hl => ?_)
      refine lv_iload X.hx X.hb dX2_strike_117 (lv_at hl 3 rfl) ?_
      refine lv_bipush (v := (-9)) X.hx X.hb dX2_strike_119 (by decide) ?_
      refine r_jn hf (fun j39 ej39 hf => ?_)
      have hj39 : ∀ (x36 : Int32) (x37 : Int32) (μ38 : gM) (H : Heap) (locs : List Loc) (ls : Array Slot), j39 x36 x37 μ38 = some r → gWd Γ A nz ad μ38 s.heap H locs → lv_has ls 9 [(0, .ref (ad b0)), (3, .int x5), (4, .int x36), (5, .int x37), (6, .int x9)] → W p l e ({ frames := 3, cells := 0, slots := 0, locals := 68 } : Room) s m args below meth c H locs 0 0 (MQ below (gQ0 Γ ad nz r A) args s 0 0 A) (F0 m 139 ls []) := by
        intro x36 x37 μ38 H locs ls hf h hl
        rw [ej39] at hf
        refine r_nmk hf (fun x40 ex hf => ?_)
        refine lv_iinc (v := x40) (lv' := [(6, .int x40), (0, .ref (ad b0)), (3, .int x5), (4, .int x36), (5, .int x37)]) X.hx X.hb dX2_strike_139 hl (k := 4) rfl (by rw [ex]; rfl) (by decide) rfl (fun ls hl => ?_)
        clear ex
        refine lv_goto (tgt := 44) X.hx X.hb dX2_strike_142 (by decide) ?_
        exact ih _ _ _ _ _ _ _ hf h (lv_sub hl [1, 2, 3, 4, 0] rfl)
      clear ej39
      refine r_jn hf (fun j42 ej42 hf => ?_)
      have hj42 : ∀  (μ41 : gM) (H : Heap) (locs : List Loc) (ls : Array Slot), j42  μ41 = some r → gWd Γ A nz ad μ41 s.heap H locs → lv_has ls 9 [(0, .ref (ad b0)), (3, .int x5), (6, .int x9), (8, .int x34)] → W p l e ({ frames := 3, cells := 0, slots := 0, locals := 68 } : Room) s m args below meth c H locs 0 0 (MQ below (gQ0 Γ ad nz r A) args s 0 0 A) (F0 m 131 ls []) := by
        intro μ41 H locs ls hf h hl
        rw [ej42] at hf
        refine lv_iload X.hx X.hb dX2_strike_131 (lv_at hl 2 rfl) ?_
        refine lv_istore (lv' := [(4, .int x9), (0, .ref (ad b0)), (3, .int x5), (6, .int x9), (8, .int x34)]) X.hx X.hb dX2_strike_133 hl (by decide) rfl (fun ls hl => ?_)
        refine lv_iload X.hx X.hb dX2_strike_135 (lv_at hl 4 rfl) ?_
        refine lv_istore (lv' := [(5, .int x34), (4, .int x9), (0, .ref (ad b0)), (3, .int x5), (6, .int x9), (8, .int x34)]) X.hx X.hb dX2_strike_137 hl (by decide) rfl (fun ls hl => ?_)
        exact hj39 _ _ _ _ _ _ hf h (lv_sub hl [2, 3, 1, 0, 4] rfl)
      clear ej42
      refine lv_icmp_eq (tgt := 131) X.hx X.hb dX2_strike_121 (by decide) (fun hc => ?_) (fun hc => ?_)
      · replace hf := gif_t hf hc
        clear hc
        exact hj42 _ _ _ _ hf h (lv_sub hl [1, 2, 5, 0] rfl)
      · replace hf := gif_f hf hc
        clear hc
        refine lv_iload X.hx X.hb dX2_strike_124 (lv_at hl 0 rfl) ?_
        refine lv_iload X.hx X.hb dX2_strike_126 (lv_at hl 4 rfl) ?_
        refine lv_icmp_ge (tgt := 139) X.hx X.hb dX2_strike_128 (by decide) (fun hc => ?_) (fun hc => ?_)
        · replace hf := gif_t hf hc
          clear hc
          exact hj39 _ _ _ _ _ _ hf h (lv_sub hl [1, 2, 3, 4, 5] rfl)
        · replace hf := gif_f hf hc
          clear hc
          exact hj42 _ _ _ _ hf h (lv_sub hl [1, 2, 5, 0] rfl)
def fX2_strike (μ0 : gM) (b0 : Nat) (a1 : Int32) : gR := cI (fX2_isRow μ0 a1) fun x1 μ2 => if x1 = 0 then (some (some (.int (-1)), μ2)) else (gis μ2 b0 2 <| cI (fX2_needPairs μ2 b0 a1) fun x3 μ4 => if 0 ≤ x3 then (gis μ4 b0 2 <| cI (fX2_underSet μ4 b0 a1) fun x5 μ6 => if x5 = 0 then (some (some (.int (-9)), μ6)) else (fX2_strike_L44 b0 x5 (fun (x45 : Int32) (x46 : Int32) (μ47 : gM) => gis μ47 b0 2 <| cI (fX2_tells μ47 b0 x46 x45) fun x48 μ49 => some (some (.int x48), μ49)) 10000 (-9) 0 0 μ6)) else (some (some (.int x3), μ4)))
set_option maxHeartbeats 4000000 in
theorem wX2_strike (l : Launch) (Γ : gG) (ad : Nat → Nat) (μ0 : gM) (b0 : Nat) (a1 : Int32) (r : Option Value × gM) (hf : fX2_strike μ0 b0 a1 = some r) : gMt0 l Γ yX2_strike (ws_ yX2_strike cX2_strike 9 (some .int)) ({ frames := 3, cells := 0, slots := 0, locals := 68 } : Room) 0 0 ad μ0 [.ref (ad b0), .int a1] r := by
  intro sz
  refine g_start (maxL := 9) (ret := (some .int)) (by decide) rfl g_all (Nat.le_of_ble_eq_true rfl) ?_
  intro p e s m below meth c ls hr hlk hnm X h hl
  generalize gA ad μ0 sz = A at X h ⊢
  generalize ([.ref (ad b0), .int a1] : List Value).toArray = args at X ⊢
  have X : gX p m c cX2_strike 9 s args "SandPianoModel" Γ A := X
  have hl : lv_has ls 9 [(0, .ref (ad b0)), (1, .int a1)] := hl
  show W p l e ({ frames := 3, cells := 0, slots := 0, locals := 68 } : Room) s m args below meth c s.heap [] 0 0 (MQ below (gQ0 Γ ad μ0.1 r A) args s 0 0 A) (F0 m 0 ls [])
  unfold fX2_strike at hf
  refine lv_iload_n X.hx X.hb dX2_strike_0 rfl (lv_at hl 1 rfl) ?_
  refine r_cSI (As := [.int a1]) (rest := []) X h hf (fun res hres => wX2_isRow l Γ ad _ a1 res hres) (va_cwS 1 X.hts (lw_S q1196 q1197 q84 q1198) rfl rfl rfl (by decide +kernel) ⟨Nat.le_of_ble_eq_true rfl, Nat.le_of_ble_eq_true rfl⟩) rfl ⟨hl.1, Nat.le_of_ble_eq_true rfl, Nat.le_of_ble_eq_true rfl, Nat.le_of_ble_eq_true rfl⟩ rfl dX2_strike_1 (fun x1 μ2 H locs hf h => ?_)
  refine lv_if_ne (tgt := 9) X.hx X.hb dX2_strike_4 (by decide) (fun hc => ?_) (fun hc => ?_)
  · replace hf := gif_f hf hc
    clear hc
    refine lv_aload_n X.hx X.hb dX2_strike_9 rfl (lv_at hl 0 rfl) ?_
    refine lv_iload_n X.hx X.hb dX2_strike_10 rfl (lv_at hl 1 rfl) ?_
    refine r_cVI (As := [.int a1]) (rest := []) (C := RX2) (T := TX2) (N := 36) X h hf (fun res hres => wX2_needPairs l Γ ad _ b0 a1 res hres) rfl (cwV 1 X.hts (lw_V q1481 q1483 qs74 q84 q1484) rfl rfl rfl (by decide +kernel) ⟨Nat.le_of_ble_eq_true rfl, Nat.le_of_ble_eq_true rfl⟩) rfl ⟨hl.1, Nat.le_of_ble_eq_true rfl, Nat.le_of_ble_eq_true rfl, Nat.le_of_ble_eq_true rfl⟩ rfl dX2_strike_11 (fun x3 μ4 H locs hf h => ?_)
    refine lv_istore_n (lv' := [(2, .int x3), (0, .ref (ad b0)), (1, .int a1)]) X.hx X.hb dX2_strike_14 rfl hl (by decide) rfl (fun ls hl => ?_)
    refine lv_iload_n X.hx X.hb dX2_strike_15 rfl (lv_at hl 0 rfl) ?_
    refine lv_if_ge (tgt := 21) X.hx X.hb dX2_strike_16 (by decide) (fun hc => ?_) (fun hc => ?_)
    · replace hf := gif_t hf hc
      clear hc
      refine lv_aload_n X.hx X.hb dX2_strike_21 rfl (lv_at hl 1 rfl) ?_
      refine lv_iload_n X.hx X.hb dX2_strike_22 rfl (lv_at hl 2 rfl) ?_
      refine r_cVI (As := [.int a1]) (rest := []) (C := RX2) (T := TX2) (N := 36) X h hf (fun res hres => wX2_underSet l Γ ad _ b0 a1 res hres) rfl (cwV 1 X.hts (lw_V q1485 q1487 qs75 q84 q1488) rfl rfl rfl (by decide +kernel) ⟨Nat.le_of_ble_eq_true rfl, Nat.le_of_ble_eq_true rfl⟩) rfl ⟨hl.1, Nat.le_of_ble_eq_true rfl, Nat.le_of_ble_eq_true rfl, Nat.le_of_ble_eq_true rfl⟩ rfl dX2_strike_23 (fun x5 μ6 H locs hf h => ?_)
      refine lv_istore_n (lv' := [(3, .int x5), (2, .int x3), (0, .ref (ad b0)), (1, .int a1)]) X.hx X.hb dX2_strike_26 rfl hl (by decide) rfl (fun ls hl => ?_)
      refine lv_iload_n X.hx X.hb dX2_strike_27 rfl (lv_at hl 0 rfl) ?_
      refine lv_if_ne (tgt := 34) X.hx X.hb dX2_strike_28 (by decide) (fun hc => ?_) (fun hc => ?_)
      · replace hf := gif_f hf hc
        clear hc
        refine lv_bipush (v := (-9)) X.hx X.hb dX2_strike_34 (by decide) ?_
        refine lv_istore (lv' := [(4, .int (-9)), (3, .int x5), (2, .int x3), (0, .ref (ad b0)), (1, .int a1)]) X.hx X.hb dX2_strike_36 hl (by decide) rfl (fun ls hl => ?_)
        refine lv_iconst (v := 0) X.hx X.hb dX2_strike_38 (by decide) ?_
        refine lv_istore (lv' := [(5, .int 0), (4, .int (-9)), (3, .int x5), (2, .int x3), (0, .ref (ad b0)), (1, .int a1)]) X.hx X.hb dX2_strike_39 hl (by decide) rfl (fun ls hl => ?_)
        refine lv_iconst (v := 0) X.hx X.hb dX2_strike_41 (by decide) ?_
        refine lv_istore (lv' := [(6, .int 0), (5, .int 0), (4, .int (-9)), (3, .int x5), (2, .int x3), (0, .ref (ad b0)), (1, .int a1)]) X.hx X.hb dX2_strike_42 hl (by decide) rfl (fun ls hl => ?_)
        refine wX2_strike_L44 l b0 x5 _ X hr hlk (fun x45 x46 μ47 H locs ls hf h hl => ?_) 10000 _ _ _ _ _ _ _ hf h (lv_sub hl [5, 3, 2, 1, 0] rfl)
        refine lv_aload_n X.hx X.hb dX2_strike_145 rfl (lv_at hl 0 rfl) ?_
        refine lv_iload X.hx X.hb dX2_strike_146 (lv_at hl 2 rfl) ?_
        refine lv_iload X.hx X.hb dX2_strike_148 (lv_at hl 1 rfl) ?_
        refine r_cVI (As := [.int x46, .int x45]) (rest := []) (C := RX2) (T := TX2) (N := 36) X h hf (fun res hres => wX2_tells l Γ ad _ b0 x46 x45 res hres) rfl (cwV 2 X.hts (lw_V q1211 q1213 qs40 q84 q1214) rfl rfl rfl (by decide +kernel) ⟨Nat.le_of_ble_eq_true rfl, Nat.le_of_ble_eq_true rfl⟩) rfl ⟨hl.1, Nat.le_of_ble_eq_true rfl, Nat.le_of_ble_eq_true rfl, Nat.le_of_ble_eq_true rfl⟩ rfl dX2_strike_150 (fun x48 μ49 H locs hf h => ?_)
        exact r_ri X h hr hlk (Nat.le_of_ble_eq_true rfl) (Nat.le_of_ble_eq_true rfl) dX2_strike_153 hf
      · replace hf := gif_t hf hc
        clear hc
        refine lv_bipush (v := (-9)) X.hx X.hb dX2_strike_31 (by decide) ?_
        exact r_ri X h hr hlk (Nat.le_of_ble_eq_true rfl) (Nat.le_of_ble_eq_true rfl) dX2_strike_33 hf
    · replace hf := gif_f hf hc
      clear hc
      refine lv_iload_n X.hx X.hb dX2_strike_19 rfl (lv_at hl 0 rfl) ?_
      exact r_ri X h hr hlk (Nat.le_of_ble_eq_true rfl) (Nat.le_of_ble_eq_true rfl) dX2_strike_20 hf
  · replace hf := gif_t hf hc
    clear hc
    refine lv_iconst (v := (-1)) X.hx X.hb dX2_strike_7 (by decide) ?_
    exact r_ri X h hr hlk (Nat.le_of_ble_eq_true rfl) (Nat.le_of_ble_eq_true rfl) dX2_strike_8 hf
/-! X2_tear -/
def fX2_tear (μ0 : gM) (b0 : Nat) (a1 : Int32) : gR := cI (fX2_isRow μ0 a1) fun x1 μ2 => if x1 = 0 then (some (some (.int (-1)), μ2)) else (gP (gfld μ2 b0 2 5) fun i3 => gaI μ2 0 i3 a1 fun x4 => if 0 ≤ x4 then (gP (gfld μ2 b0 2 5) fun i5 => gsI μ2 0 i5 a1 (-1) fun μ6 => some (some (.int 1), μ6)) else (gis μ2 b0 2 <| cI (fX2_meets μ2 b0 1) fun x7 μ8 => some (some (.int x7), μ8)))
set_option maxHeartbeats 4000000 in
theorem wX2_tear (l : Launch) (Γ : gG) (ad : Nat → Nat) (μ0 : gM) (b0 : Nat) (a1 : Int32) (r : Option Value × gM) (hf : fX2_tear μ0 b0 a1 = some r) : gMt0 l Γ yX2_tear (ws_ yX2_tear cX2_tear 2 (some .int)) ({ frames := 2, cells := 0, slots := 0, locals := 42 } : Room) 0 0 ad μ0 [.ref (ad b0), .int a1] r := by
  intro sz
  refine g_start (maxL := 2) (ret := (some .int)) (by decide) rfl g_all (Nat.le_of_ble_eq_true rfl) ?_
  intro p e s m below meth c ls hr hlk hnm X h hl
  generalize gA ad μ0 sz = A at X h ⊢
  generalize ([.ref (ad b0), .int a1] : List Value).toArray = args at X ⊢
  have X : gX p m c cX2_tear 2 s args "SandPianoModel" Γ A := X
  have hl : lv_has ls 2 [(0, .ref (ad b0)), (1, .int a1)] := hl
  show W p l e ({ frames := 2, cells := 0, slots := 0, locals := 42 } : Room) s m args below meth c s.heap [] 0 0 (MQ below (gQ0 Γ ad μ0.1 r A) args s 0 0 A) (F0 m 0 ls [])
  unfold fX2_tear at hf
  refine lv_iload_n X.hx X.hb dX2_tear_0 rfl (lv_at hl 1 rfl) ?_
  refine r_cSI (As := [.int a1]) (rest := []) X h hf (fun res hres => wX2_isRow l Γ ad _ a1 res hres) (va_cwS 1 X.hts (lw_S q1196 q1197 q84 q1198) rfl rfl rfl (by decide +kernel) ⟨Nat.le_of_ble_eq_true rfl, Nat.le_of_ble_eq_true rfl⟩) rfl ⟨hl.1, Nat.le_of_ble_eq_true rfl, Nat.le_of_ble_eq_true rfl, Nat.le_of_ble_eq_true rfl⟩ rfl dX2_tear_1 (fun x1 μ2 H locs hf h => ?_)
  refine lv_if_ne (tgt := 9) X.hx X.hb dX2_tear_4 (by decide) (fun hc => ?_) (fun hc => ?_)
  · replace hf := gif_f hf hc
    clear hc
    refine lv_aload_n X.hx X.hb dX2_tear_9 rfl (lv_at hl 0 rfl) ?_
    refine r_getP X h (ci := 2) (k := 5) (C := RX2) (T := TX2) (N := 36) rfl in_X2 (by decide) q1064 rfl dX2_tear_10 hf (fun i3 hf => ?_)
    refine lv_iload_n X.hx X.hb dX2_tear_13 rfl (lv_at hl 1 rfl) ?_
    refine r_iald X h dX2_tear_14 hf (fun x4 hf => ?_)
    refine lv_if_ge (tgt := 24) X.hx X.hb dX2_tear_15 (by decide) (fun hc => ?_) (fun hc => ?_)
    · replace hf := gif_t hf hc
      clear hc
      refine lv_aload_n X.hx X.hb dX2_tear_24 rfl (lv_at hl 0 rfl) ?_
      refine r_getP X h (ci := 2) (k := 5) (C := RX2) (T := TX2) (N := 36) rfl in_X2 (by decide) q1064 rfl dX2_tear_25 hf (fun i5 hf => ?_)
      refine lv_iload_n X.hx X.hb dX2_tear_28 rfl (lv_at hl 1 rfl) ?_
      refine lv_iconst (v := (-1)) X.hx X.hb dX2_tear_29 (by decide) ?_
      refine r_iast X h dX2_tear_30 hf (fun μ6 H locs hf h => ?_)
      refine lv_iconst (v := 1) X.hx X.hb dX2_tear_31 (by decide) ?_
      exact r_ri X h hr hlk (Nat.le_of_ble_eq_true rfl) (Nat.le_of_ble_eq_true rfl) dX2_tear_32 hf
    · replace hf := gif_f hf hc
      clear hc
      refine lv_aload_n X.hx X.hb dX2_tear_18 rfl (lv_at hl 0 rfl) ?_
      refine lv_iconst (v := 1) X.hx X.hb dX2_tear_19 (by decide) ?_
      refine r_cVI (As := [.int 1]) (rest := []) (C := RX2) (T := TX2) (N := 36) X h hf (fun res hres => wX2_meets l Γ ad _ b0 1 res hres) rfl (cwV 1 X.hts (lw_V q1199 q1201 qs38 q84 q1202) rfl rfl rfl (by decide +kernel) ⟨Nat.le_of_ble_eq_true rfl, Nat.le_of_ble_eq_true rfl⟩) rfl ⟨hl.1, Nat.le_of_ble_eq_true rfl, Nat.le_of_ble_eq_true rfl, Nat.le_of_ble_eq_true rfl⟩ rfl dX2_tear_20 (fun x7 μ8 H locs hf h => ?_)
      exact r_ri X h hr hlk (Nat.le_of_ble_eq_true rfl) (Nat.le_of_ble_eq_true rfl) dX2_tear_23 hf
  · replace hf := gif_t hf hc
    clear hc
    refine lv_iconst (v := (-1)) X.hx X.hb dX2_tear_7 (by decide) ?_
    exact r_ri X h hr hlk (Nat.le_of_ble_eq_true rfl) (Nat.le_of_ble_eq_true rfl) dX2_tear_8 hf
/-! X2_text -/
def fX2_text_L34 (b0 : Nat) (a1 : Int32) (a2 : Int32) : Nat → Int32 → gM → gR
  | 0, _, _ => none
  | n7 + 1, x5, μ6 => if 60 ≤ x5 then (some (some (.int a2), μ6)) else (gP (gfld μ6 b0 2 9) fun i8 => gsI μ6 1 i8 ((60 * a1) + x5) (vp_nar .byte 32) fun μ9 => gnm (x5 + 1) fun x10 => fX2_text_L34 b0 a1 a2 n7 x10 μ9)
set_option maxHeartbeats 4000000 in
theorem wX2_text_L34 {p : Program} {e : Env} {s : State} {m : MethodId} {args : Array Value} {below : List Frame} {meth : Method} {c : Code} {Γ : gG} {A : Nat → Prop} {nz : Nat} {ad : Nat → Nat} {r : Option Value × gM} (l : Launch) (b0 : Nat) (a1 : Int32) (a2 : Int32) (X : gX p m c cX2_text 4 s args "SandPianoModel" Γ A) (hr : meth.sig.returnType = (some .int)) (hlk : meth.locks = false) : ∀ (n7 : Nat) (x5 : Int32) (μ6 : gM) (H : Heap) (locs : List Loc) (ls : Array Slot), fX2_text_L34 b0 a1 a2 n7 x5 μ6 = some r → gWd Γ A nz ad μ6 s.heap H locs → lv_has ls 4 [(0, .ref (ad b0)), (1, .int a1), (2, .int a2), (3, .int x5)] → W p l e ({ frames := 2, cells := 0, slots := 0, locals := 42 } : Room) s m args below meth c H locs 0 0 (MQ below (gQ0 Γ ad nz r A) args s 0 0 A) (F0 m 34 ls []) := by
  intro n7
  induction n7 with
  | zero =>
    intro x5 μ6 H locs ls hf h hl
    have hf : (none : gR) = some r := hf
    cases hf
  | succ n7 ih =>
    intro x5 μ6 H locs ls hf h hl
    rw [fX2_text_L34] at hf
    refine lv_iload_n X.hx X.hb dX2_text_34 rfl (lv_at hl 3 rfl) ?_
    refine lv_bipush (v := 60) X.hx X.hb dX2_text_35 (by decide) ?_
    refine lv_icmp_ge (tgt := 59) X.hx X.hb dX2_text_37 (by decide) (fun hc => ?_) (fun hc => ?_)
    · replace hf := gif_t hf hc
      clear hc
      refine lv_iload_n X.hx X.hb dX2_text_59 rfl (lv_at hl 2 rfl) ?_
      exact r_ri X h hr hlk (Nat.le_of_ble_eq_true rfl) (Nat.le_of_ble_eq_true rfl) dX2_text_60 hf
    · replace hf := gif_f hf hc
      clear hc
      refine lv_aload_n X.hx X.hb dX2_text_40 rfl (lv_at hl 0 rfl) ?_
      refine r_getP X h (ci := 2) (k := 9) (C := RX2) (T := TX2) (N := 36) rfl in_X2 (by decide) q1068 rfl dX2_text_41 hf (fun i8 hf => ?_)
      refine lv_bipush (v := 60) X.hx X.hb dX2_text_44 (by decide) ?_
      refine lv_iload_n X.hx X.hb dX2_text_46 rfl (lv_at hl 1 rfl) ?_
      refine lv_imul X.hx X.hb dX2_text_47 ?_
      refine lv_iload_n X.hx X.hb dX2_text_48 rfl (lv_at hl 3 rfl) ?_
      refine lv_iadd X.hx X.hb dX2_text_49 ?_
      refine lv_bipush (v := 32) X.hx X.hb dX2_text_50 (by decide) ?_
      refine r_bast X h dX2_text_52 hf (fun μ9 H locs hf h => ?_)
      refine r_nmk hf (fun x10 ex hf => ?_)
      refine lv_iinc (v := x10) (lv' := [(3, .int x10), (0, .ref (ad b0)), (1, .int a1), (2, .int a2)]) X.hx X.hb dX2_text_53 hl (k := 3) rfl (by rw [ex]; rfl) (by decide) rfl (fun ls hl => ?_)
      clear ex
      refine lv_goto (tgt := 34) X.hx X.hb dX2_text_56 (by decide) ?_
      exact ih _ _ _ _ _ hf h (lv_sub hl [1, 2, 3, 0] rfl)
def fX2_text (μ0 : gM) (b0 : Nat) (a1 : Int32) (a2 : Int32) : gR := cI (fX2_isText μ0 a1) fun x1 μ2 => if x1 = 0 then (some (some (.int (-1)), μ2)) else (if a2 ≤ 60 then (if 0 ≤ a2 then (gP (gfld μ2 b0 2 8) fun i3 => gsI μ2 0 i3 a1 a2 fun μ4 => fX2_text_L34 b0 a1 a2 10000 0 μ4) else (gis μ2 b0 2 <| cI (fX2_meets μ2 b0 5) fun x11 μ12 => some (some (.int x11), μ12))) else (some (some (.int (-1)), μ2)))
set_option maxHeartbeats 4000000 in
theorem wX2_text (l : Launch) (Γ : gG) (ad : Nat → Nat) (μ0 : gM) (b0 : Nat) (a1 : Int32) (a2 : Int32) (r : Option Value × gM) (hf : fX2_text μ0 b0 a1 a2 = some r) : gMt0 l Γ yX2_text (ws_ yX2_text cX2_text 4 (some .int)) ({ frames := 2, cells := 0, slots := 0, locals := 42 } : Room) 0 0 ad μ0 [.ref (ad b0), .int a1, .int a2] r := by
  intro sz
  refine g_start (maxL := 4) (ret := (some .int)) (by decide) rfl g_all (Nat.le_of_ble_eq_true rfl) ?_
  intro p e s m below meth c ls hr hlk hnm X h hl
  generalize gA ad μ0 sz = A at X h ⊢
  generalize ([.ref (ad b0), .int a1, .int a2] : List Value).toArray = args at X ⊢
  have X : gX p m c cX2_text 4 s args "SandPianoModel" Γ A := X
  have hl : lv_has ls 4 [(0, .ref (ad b0)), (1, .int a1), (2, .int a2)] := hl
  show W p l e ({ frames := 2, cells := 0, slots := 0, locals := 42 } : Room) s m args below meth c s.heap [] 0 0 (MQ below (gQ0 Γ ad μ0.1 r A) args s 0 0 A) (F0 m 0 ls [])
  unfold fX2_text at hf
  refine lv_iload_n X.hx X.hb dX2_text_0 rfl (lv_at hl 1 rfl) ?_
  refine r_cSI (As := [.int a1]) (rest := []) X h hf (fun res hres => wX2_isText l Γ ad _ a1 res hres) (va_cwS 1 X.hts (lw_S q1235 q1236 q84 q1237) rfl rfl rfl (by decide +kernel) ⟨Nat.le_of_ble_eq_true rfl, Nat.le_of_ble_eq_true rfl⟩) rfl ⟨hl.1, Nat.le_of_ble_eq_true rfl, Nat.le_of_ble_eq_true rfl, Nat.le_of_ble_eq_true rfl⟩ rfl dX2_text_1 (fun x1 μ2 H locs hf h => ?_)
  refine lv_if_eq (tgt := 13) X.hx X.hb dX2_text_4 (by decide) (fun hc => ?_) (fun hc => ?_)
  · replace hf := gif_t hf hc
    clear hc
    refine lv_iconst (v := (-1)) X.hx X.hb dX2_text_13 (by decide) ?_
    exact r_ri X h hr hlk (Nat.le_of_ble_eq_true rfl) (Nat.le_of_ble_eq_true rfl) dX2_text_14 hf
  · replace hf := gif_f hf hc
    clear hc
    refine lv_iload_n X.hx X.hb dX2_text_7 rfl (lv_at hl 2 rfl) ?_
    refine lv_bipush (v := 60) X.hx X.hb dX2_text_8 (by decide) ?_
    refine lv_icmp_le (tgt := 15) X.hx X.hb dX2_text_10 (by decide) (fun hc => ?_) (fun hc => ?_)
    · replace hf := gif_t hf hc
      clear hc
      refine lv_iload_n X.hx X.hb dX2_text_15 rfl (lv_at hl 2 rfl) ?_
      refine lv_if_ge (tgt := 25) X.hx X.hb dX2_text_16 (by decide) (fun hc => ?_) (fun hc => ?_)
      · replace hf := gif_t hf hc
        clear hc
        refine lv_aload_n X.hx X.hb dX2_text_25 rfl (lv_at hl 0 rfl) ?_
        refine r_getP X h (ci := 2) (k := 8) (C := RX2) (T := TX2) (N := 36) rfl in_X2 (by decide) q1067 rfl dX2_text_26 hf (fun i3 hf => ?_)
        refine lv_iload_n X.hx X.hb dX2_text_29 rfl (lv_at hl 1 rfl) ?_
        refine lv_iload_n X.hx X.hb dX2_text_30 rfl (lv_at hl 2 rfl) ?_
        refine r_iast X h dX2_text_31 hf (fun μ4 H locs hf h => ?_)
        refine lv_iconst (v := 0) X.hx X.hb dX2_text_32 (by decide) ?_
        refine lv_istore_n (lv' := [(3, .int 0), (0, .ref (ad b0)), (1, .int a1), (2, .int a2)]) X.hx X.hb dX2_text_33 rfl hl (by decide) rfl (fun ls hl => ?_)
        refine wX2_text_L34 l b0 a1 a2 X hr hlk 10000 _ _ _ _ _ hf h (lv_sub hl [1, 2, 3, 0] rfl)
      · replace hf := gif_f hf hc
        clear hc
        refine lv_aload_n X.hx X.hb dX2_text_19 rfl (lv_at hl 0 rfl) ?_
        refine lv_iconst (v := 5) X.hx X.hb dX2_text_20 (by decide) ?_
        refine r_cVI (As := [.int 5]) (rest := []) (C := RX2) (T := TX2) (N := 36) X h hf (fun res hres => wX2_meets l Γ ad _ b0 5 res hres) rfl (cwV 1 X.hts (lw_V q1199 q1201 qs38 q84 q1202) rfl rfl rfl (by decide +kernel) ⟨Nat.le_of_ble_eq_true rfl, Nat.le_of_ble_eq_true rfl⟩) rfl ⟨hl.1, Nat.le_of_ble_eq_true rfl, Nat.le_of_ble_eq_true rfl, Nat.le_of_ble_eq_true rfl⟩ rfl dX2_text_21 (fun x11 μ12 H locs hf h => ?_)
        exact r_ri X h hr hlk (Nat.le_of_ble_eq_true rfl) (Nat.le_of_ble_eq_true rfl) dX2_text_24 hf
    · replace hf := gif_f hf hc
      clear hc
      refine lv_iconst (v := (-1)) X.hx X.hb dX2_text_13 (by decide) ?_
      exact r_ri X h hr hlk (Nat.le_of_ble_eq_true rfl) (Nat.le_of_ble_eq_true rfl) dX2_text_14 hf
/-! X2_tide -/
def fX2_tide (μ0 : gM) (b0 : Nat) (a1 : Int32) : gR := cI (fX2_in μ0 a1 0 9) fun x1 μ2 => if x1 = 0 then (some (some (.int (-1)), μ2)) else (gis μ2 b0 2 <| cI (fX2_needDeed μ2 b0) fun x3 μ4 => if 0 ≤ x3 then (gis μ4 b0 2 <| cV (fX2_remember μ4 b0) fun μ5 => gis μ5 b0 2 <| cI (fX2_tides μ5 b0 0 a1) fun x6 μ7 => some (some (.int x6), μ7)) else (some (some (.int x3), μ4)))
set_option maxHeartbeats 4000000 in
theorem wX2_tide (l : Launch) (Γ : gG) (ad : Nat → Nat) (μ0 : gM) (b0 : Nat) (a1 : Int32) (r : Option Value × gM) (hf : fX2_tide μ0 b0 a1 = some r) : gMt0 l Γ yX2_tide (ws_ yX2_tide cX2_tide 3 (some .int)) ({ frames := 2, cells := 0, slots := 0, locals := 47 } : Room) 0 0 ad μ0 [.ref (ad b0), .int a1] r := by
  intro sz
  refine g_start (maxL := 3) (ret := (some .int)) (by decide) rfl g_all (Nat.le_of_ble_eq_true rfl) ?_
  intro p e s m below meth c ls hr hlk hnm X h hl
  generalize gA ad μ0 sz = A at X h ⊢
  generalize ([.ref (ad b0), .int a1] : List Value).toArray = args at X ⊢
  have X : gX p m c cX2_tide 3 s args "SandPianoModel" Γ A := X
  have hl : lv_has ls 3 [(0, .ref (ad b0)), (1, .int a1)] := hl
  show W p l e ({ frames := 2, cells := 0, slots := 0, locals := 47 } : Room) s m args below meth c s.heap [] 0 0 (MQ below (gQ0 Γ ad μ0.1 r A) args s 0 0 A) (F0 m 0 ls [])
  unfold fX2_tide at hf
  refine lv_iload_n X.hx X.hb dX2_tide_0 rfl (lv_at hl 1 rfl) ?_
  refine lv_iconst (v := 0) X.hx X.hb dX2_tide_1 (by decide) ?_
  refine lv_bipush (v := 9) X.hx X.hb dX2_tide_2 (by decide) ?_
  refine r_cSI (As := [.int a1, .int 0, .int 9]) (rest := []) X h hf (fun res hres => wX2_in l Γ ad _ a1 0 9 res hres) (va_cwS 3 X.hts (lw_S q1177 q1178 q84 q1179) rfl rfl rfl (by decide +kernel) ⟨Nat.le_of_ble_eq_true rfl, Nat.le_of_ble_eq_true rfl⟩) rfl ⟨hl.1, Nat.le_of_ble_eq_true rfl, Nat.le_of_ble_eq_true rfl, Nat.le_of_ble_eq_true rfl⟩ rfl dX2_tide_4 (fun x1 μ2 H locs hf h => ?_)
  refine lv_if_ne (tgt := 12) X.hx X.hb dX2_tide_7 (by decide) (fun hc => ?_) (fun hc => ?_)
  · replace hf := gif_f hf hc
    clear hc
    refine lv_aload_n X.hx X.hb dX2_tide_12 rfl (lv_at hl 0 rfl) ?_
    refine r_cVI (As := []) (rest := []) (C := RX2) (T := TX2) (N := 36) X h hf (fun res hres => wX2_needDeed l Γ ad _ b0 res hres) rfl (cwV 0 X.hts (lw_V q1350 q1352 qs58 q84 q1353) rfl rfl rfl (by decide +kernel) ⟨Nat.le_of_ble_eq_true rfl, Nat.le_of_ble_eq_true rfl⟩) rfl ⟨hl.1, Nat.le_of_ble_eq_true rfl, Nat.le_of_ble_eq_true rfl, Nat.le_of_ble_eq_true rfl⟩ rfl dX2_tide_13 (fun x3 μ4 H locs hf h => ?_)
    refine lv_istore_n (lv' := [(2, .int x3), (0, .ref (ad b0)), (1, .int a1)]) X.hx X.hb dX2_tide_16 rfl hl (by decide) rfl (fun ls hl => ?_)
    refine lv_iload_n X.hx X.hb dX2_tide_17 rfl (lv_at hl 0 rfl) ?_
    refine lv_if_ge (tgt := 23) X.hx X.hb dX2_tide_18 (by decide) (fun hc => ?_) (fun hc => ?_)
    · replace hf := gif_t hf hc
      clear hc
      refine lv_aload_n X.hx X.hb dX2_tide_23 rfl (lv_at hl 1 rfl) ?_
      refine r_cVV (As := []) (rest := []) (C := RX2) (T := TX2) (N := 36) X h hf (fun res hres => wX2_remember l Γ ad _ b0 res hres) rfl (cwV 0 X.hts (lw_V q1326 q1328 qs53 q84 q1329) rfl rfl rfl (by decide +kernel) ⟨Nat.le_of_ble_eq_true rfl, Nat.le_of_ble_eq_true rfl⟩) rfl ⟨hl.1, Nat.le_of_ble_eq_true rfl, Nat.le_of_ble_eq_true rfl, Nat.le_of_ble_eq_true rfl⟩ rfl dX2_tide_24 (fun μ5 H locs hf h => ?_)
      refine lv_aload_n X.hx X.hb dX2_tide_27 rfl (lv_at hl 1 rfl) ?_
      refine lv_iconst (v := 0) X.hx X.hb dX2_tide_28 (by decide) ?_
      refine lv_iload_n X.hx X.hb dX2_tide_29 rfl (lv_at hl 2 rfl) ?_
      refine r_cVI (As := [.int 0, .int a1]) (rest := []) (C := RX2) (T := TX2) (N := 36) X h hf (fun res hres => wX2_tides l Γ ad _ b0 0 a1 res hres) rfl (cwV 2 X.hts (lw_V q1354 q1356 qs59 q84 q1357) rfl rfl rfl (by decide +kernel) ⟨Nat.le_of_ble_eq_true rfl, Nat.le_of_ble_eq_true rfl⟩) rfl ⟨hl.1, Nat.le_of_ble_eq_true rfl, Nat.le_of_ble_eq_true rfl, Nat.le_of_ble_eq_true rfl⟩ rfl dX2_tide_30 (fun x6 μ7 H locs hf h => ?_)
      exact r_ri X h hr hlk (Nat.le_of_ble_eq_true rfl) (Nat.le_of_ble_eq_true rfl) dX2_tide_33 hf
    · replace hf := gif_f hf hc
      clear hc
      refine lv_iload_n X.hx X.hb dX2_tide_21 rfl (lv_at hl 0 rfl) ?_
      exact r_ri X h hr hlk (Nat.le_of_ble_eq_true rfl) (Nat.le_of_ble_eq_true rfl) dX2_tide_22 hf
  · replace hf := gif_t hf hc
    clear hc
    refine lv_iconst (v := (-1)) X.hx X.hb dX2_tide_10 (by decide) ?_
    exact r_ri X h hr hlk (Nat.le_of_ble_eq_true rfl) (Nat.le_of_ble_eq_true rfl) dX2_tide_11 hf
/-! X2_tune -/
def fX2_tune_L32 (b0 : Nat) (a1 : Int32) (kx95 : Int64 → gM → gR) (kx58 : gM → gR) : Nat → Int64 → Int32 → gM → gR
  | 0, _, _, _ => none
  | n9 + 1, x6, x7, μ8 => gP (gfld μ8 b0 2 5) fun i10 => gaI μ8 0 i10 a1 fun x11 => if x11 ≤ x7 then (kx95 x6 μ8) else (gis μ8 b0 2 <| cI (fX2_rowAt μ8 b0 a1 x7) fun x12 μ13 => gis μ13 b0 2 <| cI (fX2_canPlay μ13 b0 1 x12) fun x14 μ15 => if x14 = 0 then (kx58 μ15) else (gis μ15 b0 2 <| cI (fX2_canSet μ15 b0 1) fun x16 μ17 => cI (fX2_bits μ17 x16) fun x18 μ19 => gnm ((x6 * ((x18 : Int32).toInt64))) fun x20 => gis μ19 b0 2 <| cI (fX2_rowAt μ19 b0 a1 x7) fun x21 μ22 => gis μ22 b0 2 <| cV (fX2_plays μ22 b0 1 x21) fun μ23 => gnm (x7 + 1) fun x24 => fX2_tune_L32 b0 a1 kx95 kx58 n9 x20 x24 μ23))
set_option maxHeartbeats 4000000 in
theorem wX2_tune_L32 {p : Program} {e : Env} {s : State} {m : MethodId} {args : Array Value} {below : List Frame} {meth : Method} {c : Code} {Γ : gG} {A : Nat → Prop} {nz : Nat} {ad : Nat → Nat} {r : Option Value × gM} (l : Launch) (b0 : Nat) (a1 : Int32) (kx95 : Int64 → gM → gR) (kx58 : gM → gR) (X : gX p m c cX2_tune 6 s args "SandPianoModel" Γ A) (hr : meth.sig.returnType = (some .int)) (hlk : meth.locks = false) (hk95 : ∀ (x25 : Int64) (μ : gM) (H : Heap) (locs : List Loc) (ls : Array Slot), kx95 x25 μ = some r → gWd Γ A nz ad μ s.heap H locs → lv_has ls 6 [(0, .ref (ad b0)), (3, .long x25)] → W p l e ({ frames := 4, cells := 0, slots := 0, locals := 87 } : Room) s m args below meth c H locs 0 0 (MQ below (gQ0 Γ ad nz r A) args s 0 0 A) (F0 m 95 ls [])) (hk58 : ∀  (μ : gM) (H : Heap) (locs : List Loc) (ls : Array Slot), kx58  μ = some r → gWd Γ A nz ad μ s.heap H locs → lv_has ls 6 [(0, .ref (ad b0))] → W p l e ({ frames := 4, cells := 0, slots := 0, locals := 87 } : Room) s m args below meth c H locs 0 0 (MQ below (gQ0 Γ ad nz r A) args s 0 0 A) (F0 m 58 ls [])) : ∀ (n9 : Nat) (x6 : Int64) (x7 : Int32) (μ8 : gM) (H : Heap) (locs : List Loc) (ls : Array Slot), fX2_tune_L32 b0 a1 kx95 kx58 n9 x6 x7 μ8 = some r → gWd Γ A nz ad μ8 s.heap H locs → lv_has ls 6 [(0, .ref (ad b0)), (1, .int a1), (3, .long x6), (5, .int x7)] → W p l e ({ frames := 4, cells := 0, slots := 0, locals := 87 } : Room) s m args below meth c H locs 0 0 (MQ below (gQ0 Γ ad nz r A) args s 0 0 A) (F0 m 32 ls []) := by
  intro n9
  induction n9 with
  | zero =>
    intro x6 x7 μ8 H locs ls hf h hl
    have hf : (none : gR) = some r := hf
    cases hf
  | succ n9 ih =>
    intro x6 x7 μ8 H locs ls hf h hl
    rw [fX2_tune_L32] at hf
    refine lv_iload X.hx X.hb dX2_tune_32 (lv_at hl 3 rfl) ?_
    refine lv_aload_n X.hx X.hb dX2_tune_34 rfl (lv_at hl 0 rfl) ?_
    refine r_getP X h (ci := 2) (k := 5) (C := RX2) (T := TX2) (N := 36) rfl in_X2 (by decide) q1064 rfl dX2_tune_35 hf (fun i10 hf => ?_)
    refine lv_iload_n X.hx X.hb dX2_tune_38 rfl (lv_at hl 1 rfl) ?_
    refine r_iald X h dX2_tune_39 hf (fun x11 hf => ?_)
    refine lv_icmp_ge (tgt := 95) X.hx X.hb dX2_tune_40 (by decide) (fun hc => ?_) (fun hc => ?_)
    · replace hf := gif_t hf hc
      clear hc
      exact hk95 _ _ _ _ _ hf h (lv_sub hl [0, 2] rfl)
    · replace hf := gif_f hf hc
      clear hc
      refine lv_aload_n X.hx X.hb dX2_tune_43 rfl (lv_at hl 0 rfl) ?_
      refine lv_iconst (v := 1) X.hx X.hb dX2_tune_44 (by decide) ?_
      refine lv_aload_n X.hx X.hb dX2_tune_45 rfl (lv_at hl 0 rfl) ?_
      refine lv_iload_n X.hx X.hb dX2_tune_46 rfl (lv_at hl 1 rfl) ?_
      refine lv_iload X.hx X.hb dX2_tune_47 (lv_at hl 3 rfl) ?_
      refine r_cVI (As := [.int a1, .int x7]) (rest := [.int 1, .ref (ad b0)]) (C := RX2) (T := TX2) (N := 36) X h hf (fun res hres => wX2_rowAt l Γ ad _ b0 a1 x7 res hres) rfl (cwV 2 X.hts (lw_V q1207 q1209 qs39 q84 q1210) rfl rfl rfl (by decide +kernel) ⟨Nat.le_of_ble_eq_true rfl, Nat.le_of_ble_eq_true rfl⟩) rfl ⟨hl.1, Nat.le_of_ble_eq_true rfl, Nat.le_of_ble_eq_true rfl, Nat.le_of_ble_eq_true rfl⟩ rfl dX2_tune_49 (fun x12 μ13 H locs hf h => ?_)
      refine r_cVI (As := [.int 1, .int x12]) (rest := []) (C := RX2) (T := TX2) (N := 36) X h hf (fun res hres => wX2_canPlay l Γ ad _ b0 1 x12 res hres) rfl (cwV 2 X.hts (lw_V q1293 q1295 qs50 q84 q1296) rfl rfl rfl (by decide +kernel) ⟨Nat.le_of_ble_eq_true rfl, Nat.le_of_ble_eq_true rfl⟩) rfl ⟨hl.1, Nat.le_of_ble_eq_true rfl, Nat.le_of_ble_eq_true rfl, Nat.le_of_ble_eq_true rfl⟩ rfl dX2_tune_52 (fun x14 μ15 H locs hf h => ?_)
      refine lv_if_ne (tgt := 65) X.hx X.hb dX2_tune_55 (by decide) (fun hc => ?_) (fun hc => ?_)
      · replace hf := gif_f hf hc
        clear hc
        refine lv_lload_n X.hx X.hb dX2_tune_65 rfl (lv_at hl 2 rfl) ?_
        refine lv_aload_n X.hx X.hb dX2_tune_66 rfl (lv_at hl 0 rfl) ?_
        refine lv_iconst (v := 1) X.hx X.hb dX2_tune_67 (by decide) ?_
        refine r_cVI (As := [.int 1]) (rest := [.long x6]) (C := RX2) (T := TX2) (N := 36) X h hf (fun res hres => wX2_canSet l Γ ad _ b0 1 res hres) rfl (cwV 1 X.hts (lw_V q1311 q1313 qs52 q84 q1314) rfl rfl rfl (by decide +kernel) ⟨Nat.le_of_ble_eq_true rfl, Nat.le_of_ble_eq_true rfl⟩) rfl ⟨hl.1, Nat.le_of_ble_eq_true rfl, Nat.le_of_ble_eq_true rfl, Nat.le_of_ble_eq_true rfl⟩ rfl dX2_tune_68 (fun x16 μ17 H locs hf h => ?_)
        refine r_cSI (As := [.int x16]) (rest := [.long x6]) X h hf (fun res hres => wX2_bits l Γ ad _ x16 res hres) (va_cwS 1 X.hts (lw_S q1315 q1316 q84 q1317) rfl rfl rfl (by decide +kernel) ⟨Nat.le_of_ble_eq_true rfl, Nat.le_of_ble_eq_true rfl⟩) rfl ⟨hl.1, Nat.le_of_ble_eq_true rfl, Nat.le_of_ble_eq_true rfl, Nat.le_of_ble_eq_true rfl⟩ rfl dX2_tune_71 (fun x18 μ19 H locs hf h => ?_)
        refine lv_i2l X.hx X.hb dX2_tune_74 rfl ?_
        refine lv_lmul X.hx X.hb dX2_tune_75 ?_
        refine r_nmJ hf (fun x20 hf => ?_)
        refine lv_lstore_n (lv' := [(3, .long x20), (0, .ref (ad b0)), (1, .int a1), (5, .int x7)]) X.hx X.hb dX2_tune_76 rfl hl (by decide) rfl (fun ls hl => ?_)
        refine lv_aload_n X.hx X.hb dX2_tune_77 rfl (lv_at hl 1 rfl) ?_
        refine lv_iconst (v := 1) X.hx X.hb dX2_tune_78 (by decide) ?_
        refine lv_aload_n X.hx X.hb dX2_tune_79 rfl (lv_at hl 1 rfl) ?_
        refine lv_iload_n X.hx X.hb dX2_tune_80 rfl (lv_at hl 2 rfl) ?_
        refine lv_iload X.hx X.hb dX2_tune_81 (lv_at hl 3 rfl) ?_
        refine r_cVI (As := [.int a1, .int x7]) (rest := [.int 1, .ref (ad b0)]) (C := RX2) (T := TX2) (N := 36) X h hf (fun res hres => wX2_rowAt l Γ ad _ b0 a1 x7 res hres) rfl (cwV 2 X.hts (lw_V q1207 q1209 qs39 q84 q1210) rfl rfl rfl (by decide +kernel) ⟨Nat.le_of_ble_eq_true rfl, Nat.le_of_ble_eq_true rfl⟩) rfl ⟨hl.1, Nat.le_of_ble_eq_true rfl, Nat.le_of_ble_eq_true rfl, Nat.le_of_ble_eq_true rfl⟩ rfl dX2_tune_83 (fun x21 μ22 H locs hf h => ?_)
        refine r_cVV (As := [.int 1, .int x21]) (rest := []) (C := RX2) (T := TX2) (N := 36) X h hf (fun res hres => wX2_plays l Γ ad _ b0 1 x21 res hres) rfl (cwV 2 X.hts (lw_V q1330 q1332 qs54 q84 q1333) rfl rfl rfl (by decide +kernel) ⟨Nat.le_of_ble_eq_true rfl, Nat.le_of_ble_eq_true rfl⟩) rfl ⟨hl.1, Nat.le_of_ble_eq_true rfl, Nat.le_of_ble_eq_true rfl, Nat.le_of_ble_eq_true rfl⟩ rfl dX2_tune_86 (fun μ23 H locs hf h => ?_)
        refine r_nmk hf (fun x24 ex hf => ?_)
        refine lv_iinc (v := x24) (lv' := [(5, .int x24), (3, .long x20), (0, .ref (ad b0)), (1, .int a1)]) X.hx X.hb dX2_tune_89 hl (k := 3) rfl (by rw [ex]; rfl) (by decide) rfl (fun ls hl => ?_)
        clear ex
        refine lv_goto (tgt := 32) X.hx X.hb dX2_tune_92 (by decide) ?_
        exact ih _ _ _ _ _ _ hf h (lv_sub hl [2, 3, 1, 0] rfl)
      · replace hf := gif_t hf hc
        clear hc
        exact hk58 _ _ _ _ hf h (lv_sub hl [0] rfl)
def fX2_tune (μ0 : gM) (b0 : Nat) (a1 : Int32) : gR := cI (fX2_isRow μ0 a1) fun x1 μ2 => if x1 = 0 then (some (some (.int (-1)), μ2)) else (gis μ2 b0 2 <| cI (fX2_needPiece μ2 b0 a1) fun x3 μ4 => if 0 ≤ x3 then (gis μ4 b0 2 <| cV (fX2_copyTo μ4 b0 0 1) fun μ5 => fX2_tune_L32 b0 a1 (fun (x26 : Int64) (μ27 : gM) => gis μ27 b0 2 <| cI (fX2_part μ27 b0 1 x26) fun x28 μ29 => some (some (.int x28), μ29)) (fun (μ30 : gM) => gis μ30 b0 2 <| cI (fX2_part μ30 b0 0 1) fun x31 μ32 => some (some (.int x31), μ32)) 10000 1 0 μ5) else (some (some (.int x3), μ4)))
set_option maxHeartbeats 4000000 in
theorem wX2_tune (l : Launch) (Γ : gG) (ad : Nat → Nat) (μ0 : gM) (b0 : Nat) (a1 : Int32) (r : Option Value × gM) (hf : fX2_tune μ0 b0 a1 = some r) : gMt0 l Γ yX2_tune (ws_ yX2_tune cX2_tune 6 (some .int)) ({ frames := 4, cells := 0, slots := 0, locals := 87 } : Room) 0 0 ad μ0 [.ref (ad b0), .int a1] r := by
  intro sz
  refine g_start (maxL := 6) (ret := (some .int)) (by decide) rfl g_all (Nat.le_of_ble_eq_true rfl) ?_
  intro p e s m below meth c ls hr hlk hnm X h hl
  generalize gA ad μ0 sz = A at X h ⊢
  generalize ([.ref (ad b0), .int a1] : List Value).toArray = args at X ⊢
  have X : gX p m c cX2_tune 6 s args "SandPianoModel" Γ A := X
  have hl : lv_has ls 6 [(0, .ref (ad b0)), (1, .int a1)] := hl
  show W p l e ({ frames := 4, cells := 0, slots := 0, locals := 87 } : Room) s m args below meth c s.heap [] 0 0 (MQ below (gQ0 Γ ad μ0.1 r A) args s 0 0 A) (F0 m 0 ls [])
  unfold fX2_tune at hf
  refine lv_iload_n X.hx X.hb dX2_tune_0 rfl (lv_at hl 1 rfl) ?_
  refine r_cSI (As := [.int a1]) (rest := []) X h hf (fun res hres => wX2_isRow l Γ ad _ a1 res hres) (va_cwS 1 X.hts (lw_S q1196 q1197 q84 q1198) rfl rfl rfl (by decide +kernel) ⟨Nat.le_of_ble_eq_true rfl, Nat.le_of_ble_eq_true rfl⟩) rfl ⟨hl.1, Nat.le_of_ble_eq_true rfl, Nat.le_of_ble_eq_true rfl, Nat.le_of_ble_eq_true rfl⟩ rfl dX2_tune_1 (fun x1 μ2 H locs hf h => ?_)
  refine lv_if_ne (tgt := 9) X.hx X.hb dX2_tune_4 (by decide) (fun hc => ?_) (fun hc => ?_)
  · replace hf := gif_f hf hc
    clear hc
    refine lv_aload_n X.hx X.hb dX2_tune_9 rfl (lv_at hl 0 rfl) ?_
    refine lv_iload_n X.hx X.hb dX2_tune_10 rfl (lv_at hl 1 rfl) ?_
    refine r_cVI (As := [.int a1]) (rest := []) (C := RX2) (T := TX2) (N := 36) X h hf (fun res hres => wX2_needPiece l Γ ad _ b0 a1 res hres) rfl (cwV 1 X.hts (lw_V q1390 q1392 qs61 q84 q1393) rfl rfl rfl (by decide +kernel) ⟨Nat.le_of_ble_eq_true rfl, Nat.le_of_ble_eq_true rfl⟩) rfl ⟨hl.1, Nat.le_of_ble_eq_true rfl, Nat.le_of_ble_eq_true rfl, Nat.le_of_ble_eq_true rfl⟩ rfl dX2_tune_11 (fun x3 μ4 H locs hf h => ?_)
    refine lv_istore_n (lv' := [(2, .int x3), (0, .ref (ad b0)), (1, .int a1)]) X.hx X.hb dX2_tune_14 rfl hl (by decide) rfl (fun ls hl => ?_)
    refine lv_iload_n X.hx X.hb dX2_tune_15 rfl (lv_at hl 0 rfl) ?_
    refine lv_if_ge (tgt := 21) X.hx X.hb dX2_tune_16 (by decide) (fun hc => ?_) (fun hc => ?_)
    · replace hf := gif_t hf hc
      clear hc
      refine lv_aload_n X.hx X.hb dX2_tune_21 rfl (lv_at hl 1 rfl) ?_
      refine lv_iconst (v := 0) X.hx X.hb dX2_tune_22 (by decide) ?_
      refine lv_iconst (v := 1) X.hx X.hb dX2_tune_23 (by decide) ?_
      refine r_cVV (As := [.int 0, .int 1]) (rest := []) (C := RX2) (T := TX2) (N := 36) X h hf (fun res hres => wX2_copyTo l Γ ad _ b0 0 1 res hres) rfl (cwV 2 X.hts (lw_V q1398 q1400 qs63 q84 q1401) rfl rfl rfl (by decide +kernel) ⟨Nat.le_of_ble_eq_true rfl, Nat.le_of_ble_eq_true rfl⟩) rfl ⟨hl.1, Nat.le_of_ble_eq_true rfl, Nat.le_of_ble_eq_true rfl, Nat.le_of_ble_eq_true rfl⟩ rfl dX2_tune_24 (fun μ5 H locs hf h => ?_)
      refine lv_lconst (v := 1) X.hx X.hb dX2_tune_27 (by decide) ?_
      refine lv_lstore_n (lv' := [(3, .long 1), (2, .int x3), (0, .ref (ad b0)), (1, .int a1)]) X.hx X.hb dX2_tune_28 rfl hl (by decide) rfl (fun ls hl => ?_)
      refine lv_iconst (v := 0) X.hx X.hb dX2_tune_29 (by decide) ?_
      refine lv_istore (lv' := [(5, .int 0), (3, .long 1), (2, .int x3), (0, .ref (ad b0)), (1, .int a1)]) X.hx X.hb dX2_tune_30 hl (by decide) rfl (fun ls hl => ?_)
      refine wX2_tune_L32 l b0 a1 _ _ X hr hlk (fun x26 μ27 H locs ls hf h hl => ?_) (fun μ30 H locs ls hf h hl => ?_) 10000 _ _ _ _ _ _ hf h (lv_sub hl [3, 4, 1, 0] rfl)
      · refine lv_aload_n X.hx X.hb dX2_tune_95 rfl (lv_at hl 0 rfl) ?_
        refine lv_lconst (v := 1) X.hx X.hb dX2_tune_96 (by decide) ?_
        refine lv_lload_n X.hx X.hb dX2_tune_97 rfl (lv_at hl 1 rfl) ?_
        refine r_cVI (As := [.long 1, .long x26]) (rest := []) (C := RX2) (T := TX2) (N := 36) X h hf (fun res hres => wX2_part l Γ ad _ b0 1 x26 res hres) rfl (cwV 2 X.hts (lw_V q1500 q1502 qs76 q84 q1503) rfl rfl rfl (by decide +kernel) ⟨Nat.le_of_ble_eq_true rfl, Nat.le_of_ble_eq_true rfl⟩) rfl ⟨hl.1, Nat.le_of_ble_eq_true rfl, Nat.le_of_ble_eq_true rfl, Nat.le_of_ble_eq_true rfl⟩ rfl dX2_tune_98 (fun x28 μ29 H locs hf h => ?_)
        exact r_ri X h hr hlk (Nat.le_of_ble_eq_true rfl) (Nat.le_of_ble_eq_true rfl) dX2_tune_101 hf
      · refine lv_aload_n X.hx X.hb dX2_tune_58 rfl (lv_at hl 0 rfl) ?_
        refine lv_lconst (v := 0) X.hx X.hb dX2_tune_59 (by decide) ?_
        refine lv_lconst (v := 1) X.hx X.hb dX2_tune_60 (by decide) ?_
        refine r_cVI (As := [.long 0, .long 1]) (rest := []) (C := RX2) (T := TX2) (N := 36) X h hf (fun res hres => wX2_part l Γ ad _ b0 0 1 res hres) rfl (cwV 2 X.hts (lw_V q1500 q1502 qs76 q84 q1503) rfl rfl rfl (by decide +kernel) ⟨Nat.le_of_ble_eq_true rfl, Nat.le_of_ble_eq_true rfl⟩) rfl ⟨hl.1, Nat.le_of_ble_eq_true rfl, Nat.le_of_ble_eq_true rfl, Nat.le_of_ble_eq_true rfl⟩ rfl dX2_tune_61 (fun x31 μ32 H locs hf h => ?_)
        exact r_ri X h hr hlk (Nat.le_of_ble_eq_true rfl) (Nat.le_of_ble_eq_true rfl) dX2_tune_64 hf
    · replace hf := gif_f hf hc
      clear hc
      refine lv_iload_n X.hx X.hb dX2_tune_19 rfl (lv_at hl 0 rfl) ?_
      exact r_ri X h hr hlk (Nat.le_of_ble_eq_true rfl) (Nat.le_of_ble_eq_true rfl) dX2_tune_20 hf
  · replace hf := gif_t hf hc
    clear hc
    refine lv_iconst (v := (-1)) X.hx X.hb dX2_tune_7 (by decide) ?_
    exact r_ri X h hr hlk (Nat.le_of_ble_eq_true rfl) (Nat.le_of_ble_eq_true rfl) dX2_tune_8 hf
/-! X2_undo -/
def fX2_undo_L23 (b0 : Nat) (a1 : Int32) (x5 : Int32) (kx56 : gM → gR) : Nat → Int32 → gM → gR
  | 0, _, _ => none
  | n8 + 1, x6, μ7 => if 9 ≤ x6 then (kx56 μ7) else (if x5 ≤ 0 then (kx56 μ7) else (gP (gfld μ7 b0 2 22) fun i9 => gaI μ7 0 i9 ((9 * a1) + x6) fun x10 => gis μ7 b0 2 <| cV (fX2_place μ7 b0 0 x6 x10) fun μ11 => gnm (x6 + 1) fun x12 => fX2_undo_L23 b0 a1 x5 kx56 n8 x12 μ11))
set_option maxHeartbeats 4000000 in
theorem wX2_undo_L23 {p : Program} {e : Env} {s : State} {m : MethodId} {args : Array Value} {below : List Frame} {meth : Method} {c : Code} {Γ : gG} {A : Nat → Prop} {nz : Nat} {ad : Nat → Nat} {r : Option Value × gM} (l : Launch) (b0 : Nat) (a1 : Int32) (x5 : Int32) (kx56 : gM → gR) (X : gX p m c cX2_undo 4 s args "SandPianoModel" Γ A) (hr : meth.sig.returnType = (some .int)) (hlk : meth.locks = false) (hk56 : ∀  (μ : gM) (H : Heap) (locs : List Loc) (ls : Array Slot), kx56  μ = some r → gWd Γ A nz ad μ s.heap H locs → lv_has ls 4 [(0, .ref (ad b0)), (1, .int a1), (2, .int x5)] → W p l e ({ frames := 1, cells := 0, slots := 0, locals := 23 } : Room) s m args below meth c H locs 0 0 (MQ below (gQ0 Γ ad nz r A) args s 0 0 A) (F0 m 56 ls [])) : ∀ (n8 : Nat) (x6 : Int32) (μ7 : gM) (H : Heap) (locs : List Loc) (ls : Array Slot), fX2_undo_L23 b0 a1 x5 kx56 n8 x6 μ7 = some r → gWd Γ A nz ad μ7 s.heap H locs → lv_has ls 4 [(0, .ref (ad b0)), (1, .int a1), (2, .int x5), (3, .int x6)] → W p l e ({ frames := 1, cells := 0, slots := 0, locals := 23 } : Room) s m args below meth c H locs 0 0 (MQ below (gQ0 Γ ad nz r A) args s 0 0 A) (F0 m 23 ls []) := by
  intro n8
  induction n8 with
  | zero =>
    intro x6 μ7 H locs ls hf h hl
    have hf : (none : gR) = some r := hf
    cases hf
  | succ n8 ih =>
    intro x6 μ7 H locs ls hf h hl
    rw [fX2_undo_L23] at hf
    refine lv_iload_n X.hx X.hb dX2_undo_23 rfl (lv_at hl 3 rfl) ?_
    refine lv_bipush (v := 9) X.hx X.hb dX2_undo_24 (by decide) ?_
    refine lv_icmp_ge (tgt := 56) X.hx X.hb dX2_undo_26 (by decide) (fun hc => ?_) (fun hc => ?_)
    · replace hf := gif_t hf hc
      clear hc
      exact hk56 _ _ _ _ hf h (lv_sub hl [0, 1, 2] rfl)
    · replace hf := gif_f hf hc
      clear hc
      refine lv_iload_n X.hx X.hb dX2_undo_29 rfl (lv_at hl 2 rfl) ?_
      refine lv_if_le (tgt := 56) X.hx X.hb dX2_undo_30 (by decide) (fun hc => ?_) (fun hc => ?_)
      · replace hf := gif_t hf hc
        clear hc
        exact hk56 _ _ _ _ hf h (lv_sub hl [0, 1, 2] rfl)
      · replace hf := gif_f hf hc
        clear hc
        refine lv_aload_n X.hx X.hb dX2_undo_33 rfl (lv_at hl 0 rfl) ?_
        refine lv_iconst (v := 0) X.hx X.hb dX2_undo_34 (by decide) ?_
        refine lv_iload_n X.hx X.hb dX2_undo_35 rfl (lv_at hl 3 rfl) ?_
        refine lv_aload_n X.hx X.hb dX2_undo_36 rfl (lv_at hl 0 rfl) ?_
        refine r_getP X h (ci := 2) (k := 22) (C := RX2) (T := TX2) (N := 36) rfl in_X2 (by decide) q1081 rfl dX2_undo_37 hf (fun i9 hf => ?_)
        refine lv_bipush (v := 9) X.hx X.hb dX2_undo_40 (by decide) ?_
        refine lv_iload_n X.hx X.hb dX2_undo_42 rfl (lv_at hl 1 rfl) ?_
        refine lv_imul X.hx X.hb dX2_undo_43 ?_
        refine lv_iload_n X.hx X.hb dX2_undo_44 rfl (lv_at hl 3 rfl) ?_
        refine lv_iadd X.hx X.hb dX2_undo_45 ?_
        refine r_iald X h dX2_undo_46 hf (fun x10 hf => ?_)
        refine r_cVV (As := [.int 0, .int x6, .int x10]) (rest := []) (C := RX2) (T := TX2) (N := 36) X h hf (fun res hres => wX2_place l Γ ad _ b0 0 x6 x10 res hres) rfl (cwV 3 X.hts (lw_V q1273 q1275 qs46 q84 q1276) rfl rfl rfl (by decide +kernel) ⟨Nat.le_of_ble_eq_true rfl, Nat.le_of_ble_eq_true rfl⟩) rfl ⟨hl.1, Nat.le_of_ble_eq_true rfl, Nat.le_of_ble_eq_true rfl, Nat.le_of_ble_eq_true rfl⟩ rfl dX2_undo_47 (fun μ11 H locs hf h => ?_)
        refine r_nmk hf (fun x12 ex hf => ?_)
        refine lv_iinc (v := x12) (lv' := [(3, .int x12), (0, .ref (ad b0)), (1, .int a1), (2, .int x5)]) X.hx X.hb dX2_undo_50 hl (k := 3) rfl (by rw [ex]; rfl) (by decide) rfl (fun ls hl => ?_)
        clear ex
        refine lv_goto (tgt := 23) X.hx X.hb dX2_undo_53 (by decide) ?_
        exact ih _ _ _ _ _ hf h (lv_sub hl [1, 2, 3, 0] rfl)
def fX2_undo (μ0 : gM) (b0 : Nat) (a1 : Int32) : gR := gI (gfld μ0 b0 2 21) fun x1 => cI (fX2_in μ0 a1 0 x1) fun x2 μ3 => if x2 = 0 then (some (some (.int (-1)), μ3)) else (gI (gfld μ3 b0 2 21) fun x4 => gnm ((x4 - a1)) fun x5 => fX2_undo_L23 b0 a1 x5 (fun (μ13 : gM) => gpf μ13 b0 2 21 (.int a1) fun μ14 => some (some (.int x5), μ14)) 10000 0 μ3)
set_option maxHeartbeats 4000000 in
theorem wX2_undo (l : Launch) (Γ : gG) (ad : Nat → Nat) (μ0 : gM) (b0 : Nat) (a1 : Int32) (r : Option Value × gM) (hf : fX2_undo μ0 b0 a1 = some r) : gMt0 l Γ yX2_undo (ws_ yX2_undo cX2_undo 4 (some .int)) ({ frames := 1, cells := 0, slots := 0, locals := 23 } : Room) 0 0 ad μ0 [.ref (ad b0), .int a1] r := by
  intro sz
  refine g_start (maxL := 4) (ret := (some .int)) (by decide) rfl g_all (Nat.le_of_ble_eq_true rfl) ?_
  intro p e s m below meth c ls hr hlk hnm X h hl
  generalize gA ad μ0 sz = A at X h ⊢
  generalize ([.ref (ad b0), .int a1] : List Value).toArray = args at X ⊢
  have X : gX p m c cX2_undo 4 s args "SandPianoModel" Γ A := X
  have hl : lv_has ls 4 [(0, .ref (ad b0)), (1, .int a1)] := hl
  show W p l e ({ frames := 1, cells := 0, slots := 0, locals := 23 } : Room) s m args below meth c s.heap [] 0 0 (MQ below (gQ0 Γ ad μ0.1 r A) args s 0 0 A) (F0 m 0 ls [])
  unfold fX2_undo at hf
  refine lv_iload_n X.hx X.hb dX2_undo_0 rfl (lv_at hl 1 rfl) ?_
  refine lv_iconst (v := 0) X.hx X.hb dX2_undo_1 (by decide) ?_
  refine lv_aload_n X.hx X.hb dX2_undo_2 rfl (lv_at hl 0 rfl) ?_
  refine r_getI X h (ci := 2) (k := 21) (C := RX2) (T := TX2) (N := 36) rfl in_X2 (by decide) q1080 rfl dX2_undo_3 hf (fun x1 hf => ?_)
  refine r_cSI (As := [.int a1, .int 0, .int x1]) (rest := []) X h hf (fun res hres => wX2_in l Γ ad _ a1 0 x1 res hres) (va_cwS 3 X.hts (lw_S q1177 q1178 q84 q1179) rfl rfl rfl (by decide +kernel) ⟨Nat.le_of_ble_eq_true rfl, Nat.le_of_ble_eq_true rfl⟩) rfl ⟨hl.1, Nat.le_of_ble_eq_true rfl, Nat.le_of_ble_eq_true rfl, Nat.le_of_ble_eq_true rfl⟩ rfl dX2_undo_6 (fun x2 μ3 H locs hf h => ?_)
  refine lv_if_ne (tgt := 14) X.hx X.hb dX2_undo_9 (by decide) (fun hc => ?_) (fun hc => ?_)
  · replace hf := gif_f hf hc
    clear hc
    refine lv_aload_n X.hx X.hb dX2_undo_14 rfl (lv_at hl 0 rfl) ?_
    refine r_getI X h (ci := 2) (k := 21) (C := RX2) (T := TX2) (N := 36) rfl in_X2 (by decide) q1080 rfl dX2_undo_15 hf (fun x4 hf => ?_)
    refine lv_iload_n X.hx X.hb dX2_undo_18 rfl (lv_at hl 1 rfl) ?_
    refine lv_isub X.hx X.hb dX2_undo_19 ?_
    refine r_nmI hf (fun x5 hf => ?_)
    refine lv_istore_n (lv' := [(2, .int x5), (0, .ref (ad b0)), (1, .int a1)]) X.hx X.hb dX2_undo_20 rfl hl (by decide) rfl (fun ls hl => ?_)
    refine lv_iconst (v := 0) X.hx X.hb dX2_undo_21 (by decide) ?_
    refine lv_istore_n (lv' := [(3, .int 0), (2, .int x5), (0, .ref (ad b0)), (1, .int a1)]) X.hx X.hb dX2_undo_22 rfl hl (by decide) rfl (fun ls hl => ?_)
    refine wX2_undo_L23 l b0 a1 x5 _ X hr hlk (fun μ13 H locs ls hf h hl => ?_) 10000 _ _ _ _ _ hf h (lv_sub hl [2, 3, 1, 0] rfl)
    refine lv_aload_n X.hx X.hb dX2_undo_56 rfl (lv_at hl 0 rfl) ?_
    refine lv_iload_n X.hx X.hb dX2_undo_57 rfl (lv_at hl 1 rfl) ?_
    refine r_put X h (ci := 2) (k := 21) (C := RX2) (T := TX2) (N := 36) (ty0 := tyX2) (ty := .int) (v := .int a1) rfl in_X2 tyX2_ok nmX2 (by decide) q1080 rfl rfl (by decide +kernel) rfl rfl (fun j hj => by cases hj) dX2_undo_58 hf (fun μ14 H locs hf h => ?_)
    refine lv_iload_n X.hx X.hb dX2_undo_61 rfl (lv_at hl 2 rfl) ?_
    exact r_ri X h hr hlk (Nat.le_of_ble_eq_true rfl) (Nat.le_of_ble_eq_true rfl) dX2_undo_62 hf
  · replace hf := gif_t hf hc
    clear hc
    refine lv_iconst (v := (-1)) X.hx X.hb dX2_undo_12 (by decide) ?_
    exact r_ri X h hr hlk (Nat.le_of_ble_eq_true rfl) (Nat.le_of_ble_eq_true rfl) dX2_undo_13 hf
/-! X2_upper -/
def fX2_upper (μ0 : gM) (b0 : Nat) : gR := gJ (gfld μ0 b0 2 3) fun x1 => some (some (.long x1), μ0)
set_option maxHeartbeats 4000000 in
theorem wX2_upper (l : Launch) (Γ : gG) (ad : Nat → Nat) (μ0 : gM) (b0 : Nat) (r : Option Value × gM) (hf : fX2_upper μ0 b0 = some r) : gMt0 l Γ yX2_upper (ws_ yX2_upper cX2_upper 1 (some .long)) ({ frames := 0, cells := 0, slots := 0, locals := 0 } : Room) 0 0 ad μ0 [.ref (ad b0)] r := by
  intro sz
  refine g_start (maxL := 1) (ret := (some .long)) (by decide) rfl g_all (Nat.le_of_ble_eq_true rfl) ?_
  intro p e s m below meth c ls hr hlk hnm X h hl
  generalize gA ad μ0 sz = A at X h ⊢
  generalize ([.ref (ad b0)] : List Value).toArray = args at X ⊢
  have X : gX p m c cX2_upper 1 s args "SandPianoModel" Γ A := X
  have hl : lv_has ls 1 [(0, .ref (ad b0))] := hl
  show W p l e ({ frames := 0, cells := 0, slots := 0, locals := 0 } : Room) s m args below meth c s.heap [] 0 0 (MQ below (gQ0 Γ ad μ0.1 r A) args s 0 0 A) (F0 m 0 ls [])
  unfold fX2_upper at hf
  refine lv_aload_n X.hx X.hb dX2_upper_0 rfl (lv_at hl 0 rfl) ?_
  refine r_getJ X h (ci := 2) (k := 3) (C := RX2) (T := TX2) (N := 36) rfl in_X2 (by decide) q1062 rfl dX2_upper_1 hf (fun x1 hf => ?_)
  exact r_rl X h hr hlk (Nat.le_of_ble_eq_true rfl) (Nat.le_of_ble_eq_true rfl) dX2_upper_4 hf
/-! X2_wind -/
def fX2_wind_L98 (b0 : Nat) (a1 : Int32) (x14 : Int64) (x9 : Int32) (x15 : Int32) (kx139 : Int32 → gM → gR) : Nat → Int32 → Int32 → gM → gR
  | 0, _, _, _ => none
  | n23 + 1, x20, x21, μ22 => cI (fX2_has μ22 x15 x21) fun x24 μ25 => gjn (fun  (μ26 : gM) => cI (fX2_has μ26 x15 x21) fun x28 μ29 => gjn (fun (x30 : Int32) (μ31 : gM) => gnm ((x20 - x30)) fun x33 => gnm (x21 + 1) fun x34 => fX2_wind_L98 b0 a1 x14 x9 x15 kx139 n23 x33 x34 μ31) fun j32 => if x28 = 0 then (j32 0 μ29) else (j32 1 μ29)) fun j27 => if x24 = 0 then (j27 μ25) else (if x20 ≤ 0 then (kx139 x21 μ25) else (j27 μ25))
set_option maxHeartbeats 4000000 in
theorem wX2_wind_L98 {p : Program} {e : Env} {s : State} {m : MethodId} {args : Array Value} {below : List Frame} {meth : Method} {c : Code} {Γ : gG} {A : Nat → Prop} {nz : Nat} {ad : Nat → Nat} {r : Option Value × gM} (l : Launch) (b0 : Nat) (a1 : Int32) (x14 : Int64) (x9 : Int32) (x15 : Int32) (kx139 : Int32 → gM → gR) (X : gX p m c cX2_wind 9 s args "SandPianoModel" Γ A) (hr : meth.sig.returnType = (some .int)) (hlk : meth.locks = false) (hk139 : ∀ (x35 : Int32) (μ : gM) (H : Heap) (locs : List Loc) (ls : Array Slot), kx139 x35 μ = some r → gWd Γ A nz ad μ s.heap H locs → lv_has ls 9 [(0, .ref (ad b0)), (1, .int a1), (3, .long x14), (5, .int x9), (8, .int x35)] → W p l e ({ frames := 3, cells := 0, slots := 0, locals := 70 } : Room) s m args below meth c H locs 0 0 (MQ below (gQ0 Γ ad nz r A) args s 0 0 A) (F0 m 139 ls [])) : ∀ (n23 : Nat) (x20 : Int32) (x21 : Int32) (μ22 : gM) (H : Heap) (locs : List Loc) (ls : Array Slot), fX2_wind_L98 b0 a1 x14 x9 x15 kx139 n23 x20 x21 μ22 = some r → gWd Γ A nz ad μ22 s.heap H locs → lv_has ls 9 [(0, .ref (ad b0)), (1, .int a1), (3, .long x14), (5, .int x9), (6, .int x15), (7, .int x20), (8, .int x21)] → W p l e ({ frames := 3, cells := 0, slots := 0, locals := 70 } : Room) s m args below meth c H locs 0 0 (MQ below (gQ0 Γ ad nz r A) args s 0 0 A) (F0 m 98 ls []) := by
  intro n23
  induction n23 with
  | zero =>
    intro x20 x21 μ22 H locs ls hf h hl
    have hf : (none : gR) = some r := hf
    cases hf
  | succ n23 ih =>
    intro x20 x21 μ22 H locs ls hf h hl
    rw [fX2_wind_L98] at hf
    refine lv_iload X.hx X.hb dX2_wind_98 (lv_at hl 4 rfl) ?_
    refine lv_iload X.hx X.hb dX2_wind_100 (lv_at hl 6 rfl) ?_
    refine r_cSI (As := [.int x15, .int x21]) (rest := []) X h hf (fun res hres => wX2_has l Γ ad _ x15 x21 res hres) (va_cwS 2 X.hts (lw_S q1442 q1443 q84 q1444) rfl rfl rfl (by decide +kernel) ⟨Nat.le_of_ble_eq_true rfl, Nat.le_of_ble_eq_true rfl⟩) rfl ⟨hl.1, Nat.le_of_ble_eq_true rfl, Nat.le_of_ble_eq_true rfl, Nat.le_of_ble_eq_true rfl⟩ rfl dX2_wind_102 (fun x24 μ25 H locs hf h => ?_)
    refine r_jn hf (fun j27 ej27 hf => ?_)
    have hj27 : ∀  (μ26 : gM) (H : Heap) (locs : List Loc) (ls : Array Slot), j27  μ26 = some r → gWd Γ A nz ad μ26 s.heap H locs → lv_has ls 9 [(0, .ref (ad b0)), (1, .int a1), (3, .long x14), (5, .int x9), (6, .int x15), (7, .int x20), (8, .int x21)] → W p l e ({ frames := 3, cells := 0, slots := 0, locals := 70 } : Room) s m args below meth c H locs 0 0 (MQ below (gQ0 Γ ad nz r A) args s 0 0 A) (F0 m 113 ls []) := by
      intro μ26 H locs ls hf h hl
      rw [ej27] at hf
      refine lv_iload X.hx X.hb dX2_wind_113 (lv_at hl 5 rfl) ?_
      refine lv_iload X.hx X.hb dX2_wind_115 (lv_at hl 4 rfl) ?_
      refine lv_iload X.hx X.hb dX2_wind_117 (lv_at hl 6 rfl) ?_
      refine r_cSI (As := [.int x15, .int x21]) (rest := [.int x20]) X h hf (fun res hres => wX2_has l Γ ad _ x15 x21 res hres) (va_cwS 2 X.hts (lw_S q1442 q1443 q84 q1444) rfl rfl rfl (by decide +kernel) ⟨Nat.le_of_ble_eq_true rfl, Nat.le_of_ble_eq_true rfl⟩) rfl ⟨hl.1, Nat.le_of_ble_eq_true rfl, Nat.le_of_ble_eq_true rfl, Nat.le_of_ble_eq_true rfl⟩ rfl dX2_wind_119 (fun x28 μ29 H locs hf h => ?_)
      refine r_jn hf (fun j32 ej32 hf => ?_)
      have hj32 : ∀ (x30 : Int32) (μ31 : gM) (H : Heap) (locs : List Loc) (ls : Array Slot), j32 x30 μ31 = some r → gWd Γ A nz ad μ31 s.heap H locs → lv_has ls 9 [(0, .ref (ad b0)), (1, .int a1), (3, .long x14), (5, .int x9), (6, .int x15), (8, .int x21)] → W p l e ({ frames := 3, cells := 0, slots := 0, locals := 70 } : Room) s m args below meth c H locs 0 0 (MQ below (gQ0 Γ ad nz r A) args s 0 0 A) (F0 m 130 ls [.int x30, .int x20]) := by
        intro x30 μ31 H locs ls hf h hl
        rw [ej32] at hf
        refine lv_isub X.hx X.hb dX2_wind_130 ?_
        refine r_nmI hf (fun x33 hf => ?_)
        refine lv_istore (lv' := [(7, .int x33), (0, .ref (ad b0)), (1, .int a1), (3, .long x14), (5, .int x9), (6, .int x15), (8, .int x21)]) X.hx X.hb dX2_wind_131 hl (by decide) rfl (fun ls hl => ?_)
        refine r_nmk hf (fun x34 ex hf => ?_)
        refine lv_iinc (v := x34) (lv' := [(8, .int x34), (7, .int x33), (0, .ref (ad b0)), (1, .int a1), (3, .long x14), (5, .int x9), (6, .int x15)]) X.hx X.hb dX2_wind_133 hl (k := 6) rfl (by rw [ex]; rfl) (by decide) rfl (fun ls hl => ?_)
        clear ex
        refine lv_goto (tgt := 98) X.hx X.hb dX2_wind_136 (by decide) ?_
        exact ih _ _ _ _ _ _ hf h (lv_sub hl [2, 3, 4, 5, 6, 1, 0] rfl)
      clear ej32
      refine lv_if_eq (tgt := 129) X.hx X.hb dX2_wind_122 (by decide) (fun hc => ?_) (fun hc => ?_)
      · replace hf := gif_t hf hc
        clear hc
        refine lv_iconst (v := 0) X.hx X.hb dX2_wind_129 (by decide) ?_
        exact hj32 _ _ _ _ _ hf h (lv_sub hl [0, 1, 2, 3, 4, 6] rfl)
      · replace hf := gif_f hf hc
        clear hc
        refine lv_iconst (v := 1) X.hx X.hb dX2_wind_125 (by decide) ?_
        refine lv_goto (tgt := 130) X.hx X.hb dX2_wind_126 (by decide) ?_
        exact hj32 _ _ _ _ _ hf h (lv_sub hl [0, 1, 2, 3, 4, 6] rfl)
    clear ej27
    refine lv_if_eq (tgt := 113) X.hx X.hb dX2_wind_105 (by decide) (fun hc => ?_) (fun hc => ?_)
    · replace hf := gif_t hf hc
      clear hc
      exact hj27 _ _ _ _ hf h (lv_sub hl [0, 1, 2, 3, 4, 5, 6] rfl)
    · replace hf := gif_f hf hc
      clear hc
      refine lv_iload X.hx X.hb dX2_wind_108 (lv_at hl 5 rfl) ?_
      refine lv_if_le (tgt := 139) X.hx X.hb dX2_wind_110 (by decide) (fun hc => ?_) (fun hc => ?_)
      · replace hf := gif_t hf hc
        clear hc
        exact hk139 _ _ _ _ _ hf h (lv_sub hl [0, 1, 2, 3, 6] rfl)
      · replace hf := gif_f hf hc
        clear hc
        exact hj27 _ _ _ _ hf h (lv_sub hl [0, 1, 2, 3, 4, 5, 6] rfl)
def fX2_wind_L53 (b0 : Nat) (a1 : Int32) : Nat → Int64 → Int32 → gM → gR
  | 0, _, _, _ => none
  | n11 + 1, x8, x9, μ10 => if a1 ≤ x9 then (some (some (.int x9), μ10)) else (gis μ10 b0 2 <| cI (fX2_canSet μ10 b0 0) fun x12 μ13 => if x12 = 0 then (some (some (.int x9), μ13)) else (gnm (((48271 * x8) - (48271 * x8) / 2147483647 * 2147483647)) fun x14 => gis μ13 b0 2 <| cI (fX2_canSet μ13 b0 0) fun x15 μ16 => cI (fX2_bits μ16 x15) fun x17 μ18 => gne ((x17 : Int32).toInt64) 0 <| gnm ((((x14 - x14 / ((x17 : Int32).toInt64) * ((x17 : Int32).toInt64)) : Int64).toInt32)) fun x19 => fX2_wind_L98 b0 a1 x14 x9 x15 (fun (x36 : Int32) (μ37 : gM) => gis μ37 b0 2 <| cV (fX2_remember μ37 b0) fun μ38 => gis μ38 b0 2 <| cV (fX2_plays μ38 b0 0 x36) fun μ39 => gnm (x9 + 1) fun x40 => fX2_wind_L53 b0 a1 n11 x14 x40 μ39) 10000 x19 0 μ18))
set_option maxHeartbeats 4000000 in
theorem wX2_wind_L53 {p : Program} {e : Env} {s : State} {m : MethodId} {args : Array Value} {below : List Frame} {meth : Method} {c : Code} {Γ : gG} {A : Nat → Prop} {nz : Nat} {ad : Nat → Nat} {r : Option Value × gM} (l : Launch) (b0 : Nat) (a1 : Int32) (X : gX p m c cX2_wind 9 s args "SandPianoModel" Γ A) (hr : meth.sig.returnType = (some .int)) (hlk : meth.locks = false) : ∀ (n11 : Nat) (x8 : Int64) (x9 : Int32) (μ10 : gM) (H : Heap) (locs : List Loc) (ls : Array Slot), fX2_wind_L53 b0 a1 n11 x8 x9 μ10 = some r → gWd Γ A nz ad μ10 s.heap H locs → lv_has ls 9 [(0, .ref (ad b0)), (1, .int a1), (3, .long x8), (5, .int x9)] → W p l e ({ frames := 3, cells := 0, slots := 0, locals := 70 } : Room) s m args below meth c H locs 0 0 (MQ below (gQ0 Γ ad nz r A) args s 0 0 A) (F0 m 53 ls []) := by
  intro n11
  induction n11 with
  | zero =>
    intro x8 x9 μ10 H locs ls hf h hl
    have hf : (none : gR) = some r := hf
    cases hf
  | succ n11 ih =>
    intro x8 x9 μ10 H locs ls hf h hl
    rw [fX2_wind_L53] at hf
    refine lv_iload X.hx X.hb dX2_wind_53 (lv_at hl 3 rfl) ?_
    refine lv_iload_n X.hx X.hb dX2_wind_55 rfl (lv_at hl 1 rfl) ?_
    refine lv_icmp_ge (tgt := 156) X.hx X.hb dX2_wind_56 (by decide) (fun hc => ?_) (fun hc => ?_)
    · replace hf := gif_t hf hc
      clear hc
      refine lv_iload X.hx X.hb dX2_wind_156 (lv_at hl 3 rfl) ?_
      exact r_ri X h hr hlk (Nat.le_of_ble_eq_true rfl) (Nat.le_of_ble_eq_true rfl) dX2_wind_158 hf
    · replace hf := gif_f hf hc
      clear hc
      refine lv_aload_n X.hx X.hb dX2_wind_59 rfl (lv_at hl 0 rfl) ?_
      refine lv_iconst (v := 0) X.hx X.hb dX2_wind_60 (by decide) ?_
      refine r_cVI (As := [.int 0]) (rest := []) (C := RX2) (T := TX2) (N := 36) X h hf (fun res hres => wX2_canSet l Γ ad _ b0 0 res hres) rfl (cwV 1 X.hts (lw_V q1311 q1313 qs52 q84 q1314) rfl rfl rfl (by decide +kernel) ⟨Nat.le_of_ble_eq_true rfl, Nat.le_of_ble_eq_true rfl⟩) rfl ⟨hl.1, Nat.le_of_ble_eq_true rfl, Nat.le_of_ble_eq_true rfl, Nat.le_of_ble_eq_true rfl⟩ rfl dX2_wind_61 (fun x12 μ13 H locs hf h => ?_)
      refine lv_if_eq (tgt := 156) X.hx X.hb dX2_wind_64 (by decide) (fun hc => ?_) (fun hc => ?_)
      · replace hf := gif_t hf hc
        clear hc
        refine lv_iload X.hx X.hb dX2_wind_156 (lv_at hl 3 rfl) ?_
        exact r_ri X h hr hlk (Nat.le_of_ble_eq_true rfl) (Nat.le_of_ble_eq_true rfl) dX2_wind_158 hf
      · replace hf := gif_f hf hc
        clear hc
        refine lv_ldc2 (v := 48271) X.hx X.hb X.hown (X.hts _ q1518) dX2_wind_67 ?_
        refine lv_lload_n X.hx X.hb dX2_wind_70 rfl (lv_at hl 2 rfl) ?_
        refine lv_lmul X.hx X.hb dX2_wind_71 ?_
        refine lv_ldc2 (v := 2147483647) X.hx X.hb X.hown (X.hts _ q1519) dX2_wind_72 ?_
        refine lv_lrem X.hx X.hb dX2_wind_75 (by decide) ?_
        refine r_nmJ hf (fun x14 hf => ?_)
        refine lv_lstore_n (lv' := [(3, .long x14), (0, .ref (ad b0)), (1, .int a1), (5, .int x9)]) X.hx X.hb dX2_wind_76 rfl hl (by decide) rfl (fun ls hl => ?_)
        refine lv_aload_n X.hx X.hb dX2_wind_77 rfl (lv_at hl 1 rfl) ?_
        refine lv_iconst (v := 0) X.hx X.hb dX2_wind_78 (by decide) ?_
        refine r_cVI (As := [.int 0]) (rest := []) (C := RX2) (T := TX2) (N := 36) X h hf (fun res hres => wX2_canSet l Γ ad _ b0 0 res hres) rfl (cwV 1 X.hts (lw_V q1311 q1313 qs52 q84 q1314) rfl rfl rfl (by decide +kernel) ⟨Nat.le_of_ble_eq_true rfl, Nat.le_of_ble_eq_true rfl⟩) rfl ⟨hl.1, Nat.le_of_ble_eq_true rfl, Nat.le_of_ble_eq_true rfl, Nat.le_of_ble_eq_true rfl⟩ rfl dX2_wind_79 (fun x15 μ16 H locs hf h => ?_)
        refine lv_istore (lv' := [(6, .int x15), (3, .long x14), (0, .ref (ad b0)), (1, .int a1), (5, .int x9)]) X.hx X.hb dX2_wind_82 hl (by decide) rfl (fun ls hl => ?_)
        refine lv_lload_n X.hx X.hb dX2_wind_84 rfl (lv_at hl 1 rfl) ?_
        refine lv_iload X.hx X.hb dX2_wind_85 (lv_at hl 0 rfl) ?_
        refine r_cSI (As := [.int x15]) (rest := [.long x14]) X h hf (fun res hres => wX2_bits l Γ ad _ x15 res hres) (va_cwS 1 X.hts (lw_S q1315 q1316 q84 q1317) rfl rfl rfl (by decide +kernel) ⟨Nat.le_of_ble_eq_true rfl, Nat.le_of_ble_eq_true rfl⟩) rfl ⟨hl.1, Nat.le_of_ble_eq_true rfl, Nat.le_of_ble_eq_true rfl, Nat.le_of_ble_eq_true rfl⟩ rfl dX2_wind_87 (fun x17 μ18 H locs hf h => ?_)
        refine lv_i2l X.hx X.hb dX2_wind_90 rfl ?_
        obtain ⟨hne, hf⟩ := gne_some hf
        refine lv_lrem X.hx X.hb dX2_wind_91 hne ?_
        refine lv_l2i X.hx X.hb dX2_wind_92 rfl ?_
        refine r_nmI hf (fun x19 hf => ?_)
        refine lv_istore (lv' := [(7, .int x19), (6, .int x15), (3, .long x14), (0, .ref (ad b0)), (1, .int a1), (5, .int x9)]) X.hx X.hb dX2_wind_93 hl (by decide) rfl (fun ls hl => ?_)
        refine lv_iconst (v := 0) X.hx X.hb dX2_wind_95 (by decide) ?_
        refine lv_istore (lv' := [(8, .int 0), (7, .int x19), (6, .int x15), (3, .long x14), (0, .ref (ad b0)), (1, .int a1), (5, .int x9)]) X.hx X.hb dX2_wind_96 hl (by decide) rfl (fun ls hl => ?_)
        refine wX2_wind_L98 l b0 a1 x14 x9 x15 _ X hr hlk (fun x36 μ37 H locs ls hf h hl => ?_) 10000 _ _ _ _ _ _ hf h (lv_sub hl [4, 5, 3, 6, 2, 1, 0] rfl)
        refine lv_aload_n X.hx X.hb dX2_wind_139 rfl (lv_at hl 0 rfl) ?_
        refine r_cVV (As := []) (rest := []) (C := RX2) (T := TX2) (N := 36) X h hf (fun res hres => wX2_remember l Γ ad _ b0 res hres) rfl (cwV 0 X.hts (lw_V q1326 q1328 qs53 q84 q1329) rfl rfl rfl (by decide +kernel) ⟨Nat.le_of_ble_eq_true rfl, Nat.le_of_ble_eq_true rfl⟩) rfl ⟨hl.1, Nat.le_of_ble_eq_true rfl, Nat.le_of_ble_eq_true rfl, Nat.le_of_ble_eq_true rfl⟩ rfl dX2_wind_140 (fun μ38 H locs hf h => ?_)
        refine lv_aload_n X.hx X.hb dX2_wind_143 rfl (lv_at hl 0 rfl) ?_
        refine lv_iconst (v := 0) X.hx X.hb dX2_wind_144 (by decide) ?_
        refine lv_iload X.hx X.hb dX2_wind_145 (lv_at hl 4 rfl) ?_
        refine r_cVV (As := [.int 0, .int x36]) (rest := []) (C := RX2) (T := TX2) (N := 36) X h hf (fun res hres => wX2_plays l Γ ad _ b0 0 x36 res hres) rfl (cwV 2 X.hts (lw_V q1330 q1332 qs54 q84 q1333) rfl rfl rfl (by decide +kernel) ⟨Nat.le_of_ble_eq_true rfl, Nat.le_of_ble_eq_true rfl⟩) rfl ⟨hl.1, Nat.le_of_ble_eq_true rfl, Nat.le_of_ble_eq_true rfl, Nat.le_of_ble_eq_true rfl⟩ rfl dX2_wind_147 (fun μ39 H locs hf h => ?_)
        refine r_nmk hf (fun x40 ex hf => ?_)
        refine lv_iinc (v := x40) (lv' := [(5, .int x40), (0, .ref (ad b0)), (1, .int a1), (3, .long x14), (8, .int x36)]) X.hx X.hb dX2_wind_150 hl (k := 3) rfl (by rw [ex]; rfl) (by decide) rfl (fun ls hl => ?_)
        clear ex
        refine lv_goto (tgt := 53) X.hx X.hb dX2_wind_153 (by decide) ?_
        exact ih _ _ _ _ _ _ hf h (lv_sub hl [1, 2, 3, 0] rfl)
def fX2_wind (μ0 : gM) (b0 : Nat) (a1 : Int32) (a2 : Int32) : gR := cI (fX2_in μ0 a1 1 60) fun x1 μ2 => if x1 = 0 then (some (some (.int (-1)), μ2)) else (cI (fX2_in μ2 a2 1 2147483646) fun x3 μ4 => if x3 = 0 then (some (some (.int (-1)), μ4)) else (gI (gfld μ4 b0 2 11) fun x5 => if x5 = 0 then (some (some (.int (-4)), μ4)) else (gI (gfld μ4 b0 2 21) fun x6 => if (x6 + a1) ≤ 60 then (gnm (((a2 : Int32).toInt64)) fun x7 => fX2_wind_L53 b0 a1 10000 x7 0 μ4) else (some (some (.int (-2)), μ4)))))
set_option maxHeartbeats 4000000 in
theorem wX2_wind (l : Launch) (Γ : gG) (ad : Nat → Nat) (μ0 : gM) (b0 : Nat) (a1 : Int32) (a2 : Int32) (r : Option Value × gM) (hf : fX2_wind μ0 b0 a1 a2 = some r) : gMt0 l Γ yX2_wind (ws_ yX2_wind cX2_wind 9 (some .int)) ({ frames := 3, cells := 0, slots := 0, locals := 70 } : Room) 0 0 ad μ0 [.ref (ad b0), .int a1, .int a2] r := by
  intro sz
  refine g_start (maxL := 9) (ret := (some .int)) (by decide) rfl g_all (Nat.le_of_ble_eq_true rfl) ?_
  intro p e s m below meth c ls hr hlk hnm X h hl
  generalize gA ad μ0 sz = A at X h ⊢
  generalize ([.ref (ad b0), .int a1, .int a2] : List Value).toArray = args at X ⊢
  have X : gX p m c cX2_wind 9 s args "SandPianoModel" Γ A := X
  have hl : lv_has ls 9 [(0, .ref (ad b0)), (1, .int a1), (2, .int a2)] := hl
  show W p l e ({ frames := 3, cells := 0, slots := 0, locals := 70 } : Room) s m args below meth c s.heap [] 0 0 (MQ below (gQ0 Γ ad μ0.1 r A) args s 0 0 A) (F0 m 0 ls [])
  unfold fX2_wind at hf
  refine lv_iload_n X.hx X.hb dX2_wind_0 rfl (lv_at hl 1 rfl) ?_
  refine lv_iconst (v := 1) X.hx X.hb dX2_wind_1 (by decide) ?_
  refine lv_bipush (v := 60) X.hx X.hb dX2_wind_2 (by decide) ?_
  refine r_cSI (As := [.int a1, .int 1, .int 60]) (rest := []) X h hf (fun res hres => wX2_in l Γ ad _ a1 1 60 res hres) (va_cwS 3 X.hts (lw_S q1177 q1178 q84 q1179) rfl rfl rfl (by decide +kernel) ⟨Nat.le_of_ble_eq_true rfl, Nat.le_of_ble_eq_true rfl⟩) rfl ⟨hl.1, Nat.le_of_ble_eq_true rfl, Nat.le_of_ble_eq_true rfl, Nat.le_of_ble_eq_true rfl⟩ rfl dX2_wind_4 (fun x1 μ2 H locs hf h => ?_)
  refine lv_if_eq (tgt := 21) X.hx X.hb dX2_wind_7 (by decide) (fun hc => ?_) (fun hc => ?_)
  · replace hf := gif_t hf hc
    clear hc
    refine lv_iconst (v := (-1)) X.hx X.hb dX2_wind_21 (by decide) ?_
    exact r_ri X h hr hlk (Nat.le_of_ble_eq_true rfl) (Nat.le_of_ble_eq_true rfl) dX2_wind_22 hf
  · replace hf := gif_f hf hc
    clear hc
    refine lv_iload_n X.hx X.hb dX2_wind_10 rfl (lv_at hl 2 rfl) ?_
    refine lv_iconst (v := 1) X.hx X.hb dX2_wind_11 (by decide) ?_
    refine r_ldcw X (v := 2147483646) q1517 dX2_wind_12 ?_
    refine r_cSI (As := [.int a2, .int 1, .int 2147483646]) (rest := []) X h hf (fun res hres => wX2_in l Γ ad _ a2 1 2147483646 res hres) (va_cwS 3 X.hts (lw_S q1177 q1178 q84 q1179) rfl rfl rfl (by decide +kernel) ⟨Nat.le_of_ble_eq_true rfl, Nat.le_of_ble_eq_true rfl⟩) rfl ⟨hl.1, Nat.le_of_ble_eq_true rfl, Nat.le_of_ble_eq_true rfl, Nat.le_of_ble_eq_true rfl⟩ rfl dX2_wind_15 (fun x3 μ4 H locs hf h => ?_)
    refine lv_if_ne (tgt := 23) X.hx X.hb dX2_wind_18 (by decide) (fun hc => ?_) (fun hc => ?_)
    · replace hf := gif_f hf hc
      clear hc
      refine lv_aload_n X.hx X.hb dX2_wind_23 rfl (lv_at hl 0 rfl) ?_
      refine r_getI X h (ci := 2) (k := 11) (C := RX2) (T := TX2) (N := 36) rfl in_X2 (by decide) q1070 rfl dX2_wind_24 hf (fun x5 hf => ?_)
      refine lv_if_ne (tgt := 33) X.hx X.hb dX2_wind_27 (by decide) (fun hc => ?_) (fun hc => ?_)
      · replace hf := gif_f hf hc
        clear hc
        refine lv_aload_n X.hx X.hb dX2_wind_33 rfl (lv_at hl 0 rfl) ?_
        refine r_getI X h (ci := 2) (k := 21) (C := RX2) (T := TX2) (N := 36) rfl in_X2 (by decide) q1080 rfl dX2_wind_34 hf (fun x6 hf => ?_)
        refine lv_iload_n X.hx X.hb dX2_wind_37 rfl (lv_at hl 1 rfl) ?_
        refine lv_iadd X.hx X.hb dX2_wind_38 ?_
        refine lv_bipush (v := 60) X.hx X.hb dX2_wind_39 (by decide) ?_
        refine lv_icmp_le (tgt := 47) X.hx X.hb dX2_wind_41 (by decide) (fun hc => ?_) (fun hc => ?_)
        · replace hf := gif_t hf hc
          clear hc
          refine lv_iload_n X.hx X.hb dX2_wind_47 rfl (lv_at hl 2 rfl) ?_
          refine lv_i2l X.hx X.hb dX2_wind_48 rfl ?_
          refine r_nmJ hf (fun x7 hf => ?_)
          refine lv_lstore_n (lv' := [(3, .long x7), (0, .ref (ad b0)), (1, .int a1), (2, .int a2)]) X.hx X.hb dX2_wind_49 rfl hl (by decide) rfl (fun ls hl => ?_)
          refine lv_iconst (v := 0) X.hx X.hb dX2_wind_50 (by decide) ?_
          refine lv_istore (lv' := [(5, .int 0), (3, .long x7), (0, .ref (ad b0)), (1, .int a1), (2, .int a2)]) X.hx X.hb dX2_wind_51 hl (by decide) rfl (fun ls hl => ?_)
          refine wX2_wind_L53 l b0 a1 X hr hlk 10000 _ _ _ _ _ _ hf h (lv_sub hl [2, 3, 1, 0] rfl)
        · replace hf := gif_f hf hc
          clear hc
          refine lv_bipush (v := (-2)) X.hx X.hb dX2_wind_44 (by decide) ?_
          exact r_ri X h hr hlk (Nat.le_of_ble_eq_true rfl) (Nat.le_of_ble_eq_true rfl) dX2_wind_46 hf
      · replace hf := gif_t hf hc
        clear hc
        refine lv_bipush (v := (-4)) X.hx X.hb dX2_wind_30 (by decide) ?_
        exact r_ri X h hr hlk (Nat.le_of_ble_eq_true rfl) (Nat.le_of_ble_eq_true rfl) dX2_wind_32 hf
    · replace hf := gif_t hf hc
      clear hc
      refine lv_iconst (v := (-1)) X.hx X.hb dX2_wind_21 (by decide) ?_
      exact r_ri X h hr hlk (Nat.le_of_ble_eq_true rfl) (Nat.le_of_ble_eq_true rfl) dX2_wind_22 hf
