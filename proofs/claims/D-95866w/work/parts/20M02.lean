set_option maxRecDepth 100000
/-! X2_back -/
def fX2_back_L75 (b0 : Nat) (a1 : Int32) (a2 : Int32) (a3 : Int32) (kx119 : Int32 → gM → gR) : Nat → Int32 → Int32 → gM → gR
  | 0, _, _, _ => none
  | n16 + 1, x13, x14, μ15 => gI (gfld μ15 b0 2 11) fun x17 => if x17 ≤ x14 then (kx119 x13 μ15) else (gjn (fun (x18 : Int32) (μ19 : gM) => gnm (x14 + 1) fun x21 => fX2_back_L75 b0 a1 a2 a3 kx119 n16 x18 x21 μ19) fun j20 => gjn (fun  (μ22 : gM) => j20 0 μ22) fun j23 => if x13 = 0 then (j23 μ15) else (gis μ15 b0 2 <| cI (fX2_rowAt μ15 b0 a1 x14) fun x24 μ25 => cI (fX2_in μ25 x24 0 999) fun x26 μ27 => if x26 = 0 then (j23 μ27) else (j20 1 μ27)))
set_option maxHeartbeats 4000000 in
theorem wX2_back_L75 {p : Program} {e : Env} {s : State} {m : MethodId} {args : Array Value} {below : List Frame} {meth : Method} {c : Code} {Γ : gG} {A : Nat → Prop} {nz : Nat} {ad : Nat → Nat} {r : Option Value × gM} (l : Launch) (b0 : Nat) (a1 : Int32) (a2 : Int32) (a3 : Int32) (kx119 : Int32 → gM → gR) (X : gX p m c cX2_back 6 s args "SandPianoModel" Γ A) (hr : meth.sig.returnType = (some .int)) (hlk : meth.locks = false) (hk119 : ∀ (x28 : Int32) (μ : gM) (H : Heap) (locs : List Loc) (ls : Array Slot), kx119 x28 μ = some r → gWd Γ A nz ad μ s.heap H locs → lv_has ls 6 [(0, .ref (ad b0)), (1, .int a1), (2, .int a2), (3, .int a3), (4, .int x28)] → W p l e ({ frames := 12, cells := 0, slots := 0, locals := 277 } : Room) s m args below meth c H locs 0 0 (MQ below (gQ0 Γ ad nz r A) args s 0 0 A) (F0 m 119 ls [])) : ∀ (n16 : Nat) (x13 : Int32) (x14 : Int32) (μ15 : gM) (H : Heap) (locs : List Loc) (ls : Array Slot), fX2_back_L75 b0 a1 a2 a3 kx119 n16 x13 x14 μ15 = some r → gWd Γ A nz ad μ15 s.heap H locs → lv_has ls 6 [(0, .ref (ad b0)), (1, .int a1), (2, .int a2), (3, .int a3), (4, .int x13), (5, .int x14)] → W p l e ({ frames := 12, cells := 0, slots := 0, locals := 277 } : Room) s m args below meth c H locs 0 0 (MQ below (gQ0 Γ ad nz r A) args s 0 0 A) (F0 m 75 ls []) := by
  intro n16
  induction n16 with
  | zero =>
    intro x13 x14 μ15 H locs ls hf h hl
    have hf : (none : gR) = some r := hf
    cases hf
  | succ n16 ih =>
    intro x13 x14 μ15 H locs ls hf h hl
    rw [fX2_back_L75] at hf
    refine lv_iload X.hx X.hb dX2_back_75 (lv_at hl 5 rfl) ?_
    refine lv_aload_n X.hx X.hb dX2_back_77 rfl (lv_at hl 0 rfl) ?_
    refine r_getI X h (ci := 2) (k := 11) (C := RX2) (T := TX2) (N := 36) rfl in_X2 (by decide) q1070 rfl dX2_back_78 hf (fun x17 hf => ?_)
    refine lv_icmp_ge (tgt := 119) X.hx X.hb dX2_back_81 (by decide) (fun hc => ?_) (fun hc => ?_)
    · replace hf := gif_t hf hc
      clear hc
      exact hk119 _ _ _ _ _ hf h (lv_sub hl [0, 1, 2, 3, 4] rfl)
    · replace hf := gif_f hf hc
      clear hc
      refine lv_iload X.hx X.hb dX2_back_84 (lv_at hl 4 rfl) ?_
      refine r_jn hf (fun j20 ej20 hf => ?_)
      have hj20 : ∀ (x18 : Int32) (μ19 : gM) (H : Heap) (locs : List Loc) (ls : Array Slot), j20 x18 μ19 = some r → gWd Γ A nz ad μ19 s.heap H locs → lv_has ls 6 [(0, .ref (ad b0)), (1, .int a1), (2, .int a2), (3, .int a3), (5, .int x14)] → W p l e ({ frames := 12, cells := 0, slots := 0, locals := 277 } : Room) s m args below meth c H locs 0 0 (MQ below (gQ0 Γ ad nz r A) args s 0 0 A) (F0 m 111 ls [.int x18]) := by
        intro x18 μ19 H locs ls hf h hl
        rw [ej20] at hf
        refine lv_istore (lv' := [(4, .int x18), (0, .ref (ad b0)), (1, .int a1), (2, .int a2), (3, .int a3), (5, .int x14)]) X.hx X.hb dX2_back_111 hl (by decide) rfl (fun ls hl => ?_)
        refine r_nmk hf (fun x21 ex hf => ?_)
        refine lv_iinc (v := x21) (lv' := [(5, .int x21), (4, .int x18), (0, .ref (ad b0)), (1, .int a1), (2, .int a2), (3, .int a3)]) X.hx X.hb dX2_back_113 hl (k := 5) rfl (by rw [ex]; rfl) (by decide) rfl (fun ls hl => ?_)
        clear ex
        refine lv_goto (tgt := 75) X.hx X.hb dX2_back_116 (by decide) ?_
        exact ih _ _ _ _ _ _ hf h (lv_sub hl [2, 3, 4, 5, 1, 0] rfl)
      clear ej20
      refine r_jn hf (fun j23 ej23 hf => ?_)
      have hj23 : ∀  (μ22 : gM) (H : Heap) (locs : List Loc) (ls : Array Slot), j23  μ22 = some r → gWd Γ A nz ad μ22 s.heap H locs → lv_has ls 6 [(0, .ref (ad b0)), (1, .int a1), (2, .int a2), (3, .int a3), (5, .int x14)] → W p l e ({ frames := 12, cells := 0, slots := 0, locals := 277 } : Room) s m args below meth c H locs 0 0 (MQ below (gQ0 Γ ad nz r A) args s 0 0 A) (F0 m 110 ls []) := by
        intro μ22 H locs ls hf h hl
        rw [ej23] at hf
        refine lv_iconst (v := 0) X.hx X.hb dX2_back_110 (by decide) ?_
        exact hj20 _ _ _ _ _ hf h (lv_sub hl [0, 1, 2, 3, 4] rfl)
      clear ej23
      refine lv_if_eq (tgt := 110) X.hx X.hb dX2_back_86 (by decide) (fun hc => ?_) (fun hc => ?_)
      · replace hf := gif_t hf hc
        clear hc
        exact hj23 _ _ _ _ hf h (lv_sub hl [0, 1, 2, 3, 5] rfl)
      · replace hf := gif_f hf hc
        clear hc
        refine lv_aload_n X.hx X.hb dX2_back_89 rfl (lv_at hl 0 rfl) ?_
        refine lv_iload_n X.hx X.hb dX2_back_90 rfl (lv_at hl 1 rfl) ?_
        refine lv_iload X.hx X.hb dX2_back_91 (lv_at hl 5 rfl) ?_
        refine r_cVI (As := [.int a1, .int x14]) (rest := []) (C := RX2) (T := TX2) (N := 36) X h hf (fun res hres => wX2_rowAt l Γ ad _ b0 a1 x14 res hres) rfl (cwV 2 X.hts (lw_V q1207 q1209 qs39 q84 q1210) rfl rfl rfl (by decide +kernel) ⟨Nat.le_of_ble_eq_true rfl, Nat.le_of_ble_eq_true rfl⟩) rfl ⟨hl.1, Nat.le_of_ble_eq_true rfl, Nat.le_of_ble_eq_true rfl, Nat.le_of_ble_eq_true rfl⟩ rfl dX2_back_93 (fun x24 μ25 H locs hf h => ?_)
        refine lv_iconst (v := 0) X.hx X.hb dX2_back_96 (by decide) ?_
        refine lv_sipush (v := 999) X.hx X.hb dX2_back_97 (by decide) ?_
        refine r_cSI (As := [.int x24, .int 0, .int 999]) (rest := []) X h hf (fun res hres => wX2_in l Γ ad _ x24 0 999 res hres) (va_cwS 3 X.hts (lw_S q1177 q1178 q84 q1179) rfl rfl rfl (by decide +kernel) ⟨Nat.le_of_ble_eq_true rfl, Nat.le_of_ble_eq_true rfl⟩) rfl ⟨hl.1, Nat.le_of_ble_eq_true rfl, Nat.le_of_ble_eq_true rfl, Nat.le_of_ble_eq_true rfl⟩ rfl dX2_back_100 (fun x26 μ27 H locs hf h => ?_)
        refine lv_if_eq (tgt := 110) X.hx X.hb dX2_back_103 (by decide) (fun hc => ?_) (fun hc => ?_)
        · replace hf := gif_t hf hc
          clear hc
          exact hj23 _ _ _ _ hf h (lv_sub hl [0, 1, 2, 3, 5] rfl)
        · replace hf := gif_f hf hc
          clear hc
          refine lv_iconst (v := 1) X.hx X.hb dX2_back_106 (by decide) ?_
          refine lv_goto (tgt := 111) X.hx X.hb dX2_back_107 (by decide) ?_
          exact hj20 _ _ _ _ _ hf h (lv_sub hl [0, 1, 2, 3, 5] rfl)
def fX2_back_L133 (b0 : Nat) (a1 : Int32) (a2 : Int32) (a3 : Int32) (kx173 : gM → gR) : Nat → Int32 → gM → gR
  | 0, _, _ => none
  | n33 + 1, x31, μ32 => if 9 ≤ x31 then (kx173 μ32) else (gI (gfld μ32 b0 2 11) fun x34 => gjn (fun (x35 : Int32) (μ36 : gM) => gis μ36 b0 2 <| cV (fX2_place μ36 b0 1 x31 x35) fun μ38 => gnm (x31 + 1) fun x39 => fX2_back_L133 b0 a1 a2 a3 kx173 n33 x39 μ38) fun j37 => if x34 ≤ x31 then (j37 0 μ32) else (gis μ32 b0 2 <| cI (fX2_rowAt μ32 b0 a1 x31) fun x40 μ41 => j37 x40 μ41))
set_option maxHeartbeats 4000000 in
theorem wX2_back_L133 {p : Program} {e : Env} {s : State} {m : MethodId} {args : Array Value} {below : List Frame} {meth : Method} {c : Code} {Γ : gG} {A : Nat → Prop} {nz : Nat} {ad : Nat → Nat} {r : Option Value × gM} (l : Launch) (b0 : Nat) (a1 : Int32) (a2 : Int32) (a3 : Int32) (kx173 : gM → gR) (X : gX p m c cX2_back 6 s args "SandPianoModel" Γ A) (hr : meth.sig.returnType = (some .int)) (hlk : meth.locks = false) (hk173 : ∀  (μ : gM) (H : Heap) (locs : List Loc) (ls : Array Slot), kx173  μ = some r → gWd Γ A nz ad μ s.heap H locs → lv_has ls 6 [(0, .ref (ad b0)), (2, .int a2), (3, .int a3)] → W p l e ({ frames := 12, cells := 0, slots := 0, locals := 277 } : Room) s m args below meth c H locs 0 0 (MQ below (gQ0 Γ ad nz r A) args s 0 0 A) (F0 m 173 ls [])) : ∀ (n33 : Nat) (x31 : Int32) (μ32 : gM) (H : Heap) (locs : List Loc) (ls : Array Slot), fX2_back_L133 b0 a1 a2 a3 kx173 n33 x31 μ32 = some r → gWd Γ A nz ad μ32 s.heap H locs → lv_has ls 6 [(0, .ref (ad b0)), (1, .int a1), (2, .int a2), (3, .int a3), (5, .int x31)] → W p l e ({ frames := 12, cells := 0, slots := 0, locals := 277 } : Room) s m args below meth c H locs 0 0 (MQ below (gQ0 Γ ad nz r A) args s 0 0 A) (F0 m 133 ls []) := by
  intro n33
  induction n33 with
  | zero =>
    intro x31 μ32 H locs ls hf h hl
    have hf : (none : gR) = some r := hf
    cases hf
  | succ n33 ih =>
    intro x31 μ32 H locs ls hf h hl
    rw [fX2_back_L133] at hf
    refine lv_iload X.hx X.hb dX2_back_133 (lv_at hl 4 rfl) ?_
    refine lv_bipush (v := 9) X.hx X.hb dX2_back_135 (by decide) ?_
    refine lv_icmp_ge (tgt := 173) X.hx X.hb dX2_back_137 (by decide) (fun hc => ?_) (fun hc => ?_)
    · replace hf := gif_t hf hc
      clear hc
      exact hk173 _ _ _ _ hf h (lv_sub hl [0, 2, 3] rfl)
    · replace hf := gif_f hf hc
      clear hc
      refine lv_aload_n X.hx X.hb dX2_back_140 rfl (lv_at hl 0 rfl) ?_
      refine lv_iconst (v := 1) X.hx X.hb dX2_back_141 (by decide) ?_
      refine lv_iload X.hx X.hb dX2_back_142 (lv_at hl 4 rfl) ?_
      refine lv_iload X.hx X.hb dX2_back_144 (lv_at hl 4 rfl) ?_
      refine lv_aload_n X.hx X.hb dX2_back_146 rfl (lv_at hl 0 rfl) ?_
      refine r_getI X h (ci := 2) (k := 11) (C := RX2) (T := TX2) (N := 36) rfl in_X2 (by decide) q1070 rfl dX2_back_147 hf (fun x34 hf => ?_)
      refine r_jn hf (fun j37 ej37 hf => ?_)
      have hj37 : ∀ (x35 : Int32) (μ36 : gM) (H : Heap) (locs : List Loc) (ls : Array Slot), j37 x35 μ36 = some r → gWd Γ A nz ad μ36 s.heap H locs → lv_has ls 6 [(0, .ref (ad b0)), (1, .int a1), (2, .int a2), (3, .int a3), (5, .int x31)] → W p l e ({ frames := 12, cells := 0, slots := 0, locals := 277 } : Room) s m args below meth c H locs 0 0 (MQ below (gQ0 Γ ad nz r A) args s 0 0 A) (F0 m 164 ls [.int x35, .int x31, .int 1, .ref (ad b0)]) := by
        intro x35 μ36 H locs ls hf h hl
        rw [ej37] at hf
        refine r_cVV (As := [.int 1, .int x31, .int x35]) (rest := []) (C := RX2) (T := TX2) (N := 36) X h hf (fun res hres => wX2_place l Γ ad _ b0 1 x31 x35 res hres) rfl (cwV 3 X.hts (lw_V q1273 q1275 qs46 q84 q1276) rfl rfl rfl (by decide +kernel) ⟨Nat.le_of_ble_eq_true rfl, Nat.le_of_ble_eq_true rfl⟩) rfl ⟨hl.1, Nat.le_of_ble_eq_true rfl, Nat.le_of_ble_eq_true rfl, Nat.le_of_ble_eq_true rfl⟩ rfl dX2_back_164 (fun μ38 H locs hf h => ?_)
        refine r_nmk hf (fun x39 ex hf => ?_)
        refine lv_iinc (v := x39) (lv' := [(5, .int x39), (0, .ref (ad b0)), (1, .int a1), (2, .int a2), (3, .int a3)]) X.hx X.hb dX2_back_167 hl (k := 4) rfl (by rw [ex]; rfl) (by decide) rfl (fun ls hl => ?_)
        clear ex
        refine lv_goto (tgt := 133) X.hx X.hb dX2_back_170 (by decide) ?_
        exact ih _ _ _ _ _ hf h (lv_sub hl [1, 2, 3, 4, 0] rfl)
      clear ej37
      refine lv_icmp_ge (tgt := 163) X.hx X.hb dX2_back_150 (by decide) (fun hc => ?_) (fun hc => ?_)
      · replace hf := gif_t hf hc
        clear hc
        refine lv_iconst (v := 0) X.hx X.hb dX2_back_163 (by decide) ?_
        exact hj37 _ _ _ _ _ hf h (lv_sub hl [0, 1, 2, 3, 4] rfl)
      · replace hf := gif_f hf hc
        clear hc
        refine lv_aload_n X.hx X.hb dX2_back_153 rfl (lv_at hl 0 rfl) ?_
        refine lv_iload_n X.hx X.hb dX2_back_154 rfl (lv_at hl 1 rfl) ?_
        refine lv_iload X.hx X.hb dX2_back_155 (lv_at hl 4 rfl) ?_
        refine r_cVI (As := [.int a1, .int x31]) (rest := [.int x31, .int 1, .ref (ad b0)]) (C := RX2) (T := TX2) (N := 36) X h hf (fun res hres => wX2_rowAt l Γ ad _ b0 a1 x31 res hres) rfl (cwV 2 X.hts (lw_V q1207 q1209 qs39 q84 q1210) rfl rfl rfl (by decide +kernel) ⟨Nat.le_of_ble_eq_true rfl, Nat.le_of_ble_eq_true rfl⟩) rfl ⟨hl.1, Nat.le_of_ble_eq_true rfl, Nat.le_of_ble_eq_true rfl, Nat.le_of_ble_eq_true rfl⟩ rfl dX2_back_157 (fun x40 μ41 H locs hf h => ?_)
        refine lv_goto (tgt := 164) X.hx X.hb dX2_back_160 (by decide) ?_
        exact hj37 _ _ _ _ _ hf h (lv_sub hl [0, 1, 2, 3, 4] rfl)
def fX2_back (μ0 : gM) (b0 : Nat) (a1 : Int32) (a2 : Int32) (a3 : Int32) : gR := cI (fX2_isRow μ0 a1) fun x1 μ2 => if x1 = 0 then (some (some (.int (-1)), μ2)) else (cI (fX2_in μ2 a2 0 4) fun x3 μ4 => if x3 = 0 then (some (some (.int (-1)), μ4)) else (cI (fX2_isRow μ4 a3) fun x5 μ6 => if x5 = 0 then (some (some (.int (-1)), μ6)) else (gI (gfld μ6 b0 2 11) fun x7 => if x7 = 0 then (some (some (.int (-4)), μ6)) else (gP (gfld μ6 b0 2 5) fun i8 => gaI μ6 0 i8 a1 fun x9 => if 0 ≤ x9 then (gP (gfld μ6 b0 2 5) fun i10 => gaI μ6 0 i10 a1 fun x11 => gI (gfld μ6 b0 2 11) fun x12 => if x11 = x12 then (fX2_back_L75 b0 a1 a2 a3 (fun (x29 : Int32) (μ30 : gM) => if x29 = 0 then (gis μ30 b0 2 <| cI (fX2_meets μ30 b0 3) fun x51 μ52 => some (some (.int x51), μ52)) else (fX2_back_L133 b0 a1 a2 a3 (fun (μ42 : gM) => gpf μ42 b0 2 32 (.int 0) fun μ43 => gis μ43 b0 2 <| cV (fX2_layBack 8 μ43 b0 0 a2) fun μ44 => gI (gfld μ44 b0 2 32) fun x45 => gjn (fun (μ46 : gM) => gI (gfld μ46 b0 2 32) fun x48 => some (some (.int x48), μ46)) fun j47 => if x45 ≤ 0 then (j47 μ44) else (gP (gfld μ44 b0 2 29) fun i49 => gis μ44 b0 2 <| cV (fX2_layRow μ44 b0 a3 i49 a2) fun μ50 => j47 μ50)) 10000 0 μ30)) 10000 1 0 μ6) else (gis μ6 b0 2 <| cI (fX2_meets μ6 b0 5) fun x53 μ54 => some (some (.int x53), μ54))) else (gis μ6 b0 2 <| cI (fX2_meets μ6 b0 1) fun x55 μ56 => some (some (.int x55), μ56))))))
set_option maxHeartbeats 4000000 in
theorem wX2_back (l : Launch) (Γ : gG) (ad : Nat → Nat) (μ0 : gM) (b0 : Nat) (a1 : Int32) (a2 : Int32) (a3 : Int32) (r : Option Value × gM) (hf : fX2_back μ0 b0 a1 a2 a3 = some r) : gMt0 l Γ yX2_back (ws_ yX2_back cX2_back 6 (some .int)) ({ frames := 12, cells := 0, slots := 0, locals := 277 } : Room) 0 0 ad μ0 [.ref (ad b0), .int a1, .int a2, .int a3] r := by
  intro sz
  refine g_start (maxL := 6) (ret := (some .int)) (by decide) rfl g_all (Nat.le_of_ble_eq_true rfl) ?_
  intro p e s m below meth c ls hr hlk hnm X h hl
  generalize gA ad μ0 sz = A at X h ⊢
  generalize ([.ref (ad b0), .int a1, .int a2, .int a3] : List Value).toArray = args at X ⊢
  have X : gX p m c cX2_back 6 s args "SandPianoModel" Γ A := X
  have hl : lv_has ls 6 [(0, .ref (ad b0)), (1, .int a1), (2, .int a2), (3, .int a3)] := hl
  show W p l e ({ frames := 12, cells := 0, slots := 0, locals := 277 } : Room) s m args below meth c s.heap [] 0 0 (MQ below (gQ0 Γ ad μ0.1 r A) args s 0 0 A) (F0 m 0 ls [])
  unfold fX2_back at hf
  refine lv_iload_n X.hx X.hb dX2_back_0 rfl (lv_at hl 1 rfl) ?_
  refine r_cSI (As := [.int a1]) (rest := []) X h hf (fun res hres => wX2_isRow l Γ ad _ a1 res hres) (va_cwS 1 X.hts (lw_S q1196 q1197 q84 q1198) rfl rfl rfl (by decide +kernel) ⟨Nat.le_of_ble_eq_true rfl, Nat.le_of_ble_eq_true rfl⟩) rfl ⟨hl.1, Nat.le_of_ble_eq_true rfl, Nat.le_of_ble_eq_true rfl, Nat.le_of_ble_eq_true rfl⟩ rfl dX2_back_1 (fun x1 μ2 H locs hf h => ?_)
  refine lv_if_eq (tgt := 23) X.hx X.hb dX2_back_4 (by decide) (fun hc => ?_) (fun hc => ?_)
  · replace hf := gif_t hf hc
    clear hc
    refine lv_iconst (v := (-1)) X.hx X.hb dX2_back_23 (by decide) ?_
    exact r_ri X h hr hlk (Nat.le_of_ble_eq_true rfl) (Nat.le_of_ble_eq_true rfl) dX2_back_24 hf
  · replace hf := gif_f hf hc
    clear hc
    refine lv_iload_n X.hx X.hb dX2_back_7 rfl (lv_at hl 2 rfl) ?_
    refine lv_iconst (v := 0) X.hx X.hb dX2_back_8 (by decide) ?_
    refine lv_iconst (v := 4) X.hx X.hb dX2_back_9 (by decide) ?_
    refine r_cSI (As := [.int a2, .int 0, .int 4]) (rest := []) X h hf (fun res hres => wX2_in l Γ ad _ a2 0 4 res hres) (va_cwS 3 X.hts (lw_S q1177 q1178 q84 q1179) rfl rfl rfl (by decide +kernel) ⟨Nat.le_of_ble_eq_true rfl, Nat.le_of_ble_eq_true rfl⟩) rfl ⟨hl.1, Nat.le_of_ble_eq_true rfl, Nat.le_of_ble_eq_true rfl, Nat.le_of_ble_eq_true rfl⟩ rfl dX2_back_10 (fun x3 μ4 H locs hf h => ?_)
    refine lv_if_eq (tgt := 23) X.hx X.hb dX2_back_13 (by decide) (fun hc => ?_) (fun hc => ?_)
    · replace hf := gif_t hf hc
      clear hc
      refine lv_iconst (v := (-1)) X.hx X.hb dX2_back_23 (by decide) ?_
      exact r_ri X h hr hlk (Nat.le_of_ble_eq_true rfl) (Nat.le_of_ble_eq_true rfl) dX2_back_24 hf
    · replace hf := gif_f hf hc
      clear hc
      refine lv_iload_n X.hx X.hb dX2_back_16 rfl (lv_at hl 3 rfl) ?_
      refine r_cSI (As := [.int a3]) (rest := []) X h hf (fun res hres => wX2_isRow l Γ ad _ a3 res hres) (va_cwS 1 X.hts (lw_S q1196 q1197 q84 q1198) rfl rfl rfl (by decide +kernel) ⟨Nat.le_of_ble_eq_true rfl, Nat.le_of_ble_eq_true rfl⟩) rfl ⟨hl.1, Nat.le_of_ble_eq_true rfl, Nat.le_of_ble_eq_true rfl, Nat.le_of_ble_eq_true rfl⟩ rfl dX2_back_17 (fun x5 μ6 H locs hf h => ?_)
      refine lv_if_ne (tgt := 25) X.hx X.hb dX2_back_20 (by decide) (fun hc => ?_) (fun hc => ?_)
      · replace hf := gif_f hf hc
        clear hc
        refine lv_aload_n X.hx X.hb dX2_back_25 rfl (lv_at hl 0 rfl) ?_
        refine r_getI X h (ci := 2) (k := 11) (C := RX2) (T := TX2) (N := 36) rfl in_X2 (by decide) q1070 rfl dX2_back_26 hf (fun x7 hf => ?_)
        refine lv_if_ne (tgt := 35) X.hx X.hb dX2_back_29 (by decide) (fun hc => ?_) (fun hc => ?_)
        · replace hf := gif_f hf hc
          clear hc
          refine lv_aload_n X.hx X.hb dX2_back_35 rfl (lv_at hl 0 rfl) ?_
          refine r_getP X h (ci := 2) (k := 5) (C := RX2) (T := TX2) (N := 36) rfl in_X2 (by decide) q1064 rfl dX2_back_36 hf (fun i8 hf => ?_)
          refine lv_iload_n X.hx X.hb dX2_back_39 rfl (lv_at hl 1 rfl) ?_
          refine r_iald X h dX2_back_40 hf (fun x9 hf => ?_)
          refine lv_if_ge (tgt := 50) X.hx X.hb dX2_back_41 (by decide) (fun hc => ?_) (fun hc => ?_)
          · replace hf := gif_t hf hc
            clear hc
            refine lv_aload_n X.hx X.hb dX2_back_50 rfl (lv_at hl 0 rfl) ?_
            refine r_getP X h (ci := 2) (k := 5) (C := RX2) (T := TX2) (N := 36) rfl in_X2 (by decide) q1064 rfl dX2_back_51 hf (fun i10 hf => ?_)
            refine lv_iload_n X.hx X.hb dX2_back_54 rfl (lv_at hl 1 rfl) ?_
            refine r_iald X h dX2_back_55 hf (fun x11 hf => ?_)
            refine lv_aload_n X.hx X.hb dX2_back_56 rfl (lv_at hl 0 rfl) ?_
            refine r_getI X h (ci := 2) (k := 11) (C := RX2) (T := TX2) (N := 36) rfl in_X2 (by decide) q1070 rfl dX2_back_57 hf (fun x12 hf => ?_)
            refine lv_icmp_eq (tgt := 69) X.hx X.hb dX2_back_60 (by decide) (fun hc => ?_) (fun hc => ?_)
            · replace hf := gif_t hf hc
              clear hc
              refine lv_iconst (v := 1) X.hx X.hb dX2_back_69 (by decide) ?_
              refine lv_istore (lv' := [(4, .int 1), (0, .ref (ad b0)), (1, .int a1), (2, .int a2), (3, .int a3)]) X.hx X.hb dX2_back_70 hl (by decide) rfl (fun ls hl => ?_)
              refine lv_iconst (v := 0) X.hx X.hb dX2_back_72 (by decide) ?_
              refine lv_istore (lv' := [(5, .int 0), (4, .int 1), (0, .ref (ad b0)), (1, .int a1), (2, .int a2), (3, .int a3)]) X.hx X.hb dX2_back_73 hl (by decide) rfl (fun ls hl => ?_)
              refine wX2_back_L75 l b0 a1 a2 a3 _ X hr hlk (fun x29 μ30 H locs ls hf h hl => ?_) 10000 _ _ _ _ _ _ hf h (lv_sub hl [2, 3, 4, 5, 1, 0] rfl)
              refine lv_iload X.hx X.hb dX2_back_119 (lv_at hl 4 rfl) ?_
              refine lv_if_ne (tgt := 130) X.hx X.hb dX2_back_121 (by decide) (fun hc => ?_) (fun hc => ?_)
              · replace hf := gif_f hf hc
                clear hc
                refine lv_iconst (v := 0) X.hx X.hb dX2_back_130 (by decide) ?_
                refine lv_istore (lv' := [(5, .int 0), (0, .ref (ad b0)), (1, .int a1), (2, .int a2), (3, .int a3), (4, .int x29)]) X.hx X.hb dX2_back_131 hl (by decide) rfl (fun ls hl => ?_)
                refine wX2_back_L133 l b0 a1 a2 a3 _ X hr hlk (fun μ42 H locs ls hf h hl => ?_) 10000 _ _ _ _ _ hf h (lv_sub hl [1, 2, 3, 4, 0] rfl)
                refine lv_aload_n X.hx X.hb dX2_back_173 rfl (lv_at hl 0 rfl) ?_
                refine lv_iconst (v := 0) X.hx X.hb dX2_back_174 (by decide) ?_
                refine r_put X h (ci := 2) (k := 32) (C := RX2) (T := TX2) (N := 36) (ty0 := tyX2) (ty := .int) (v := .int 0) rfl in_X2 tyX2_ok nmX2 (by decide) q1091 rfl rfl (by decide +kernel) rfl rfl (fun j hj => by cases hj) dX2_back_175 hf (fun μ43 H locs hf h => ?_)
                refine lv_aload_n X.hx X.hb dX2_back_178 rfl (lv_at hl 0 rfl) ?_
                refine lv_iconst (v := 0) X.hx X.hb dX2_back_179 (by decide) ?_
                refine lv_iload_n X.hx X.hb dX2_back_180 rfl (lv_at hl 1 rfl) ?_
                refine r_cVV (As := [.int 0, .int a2]) (rest := []) (C := RX2) (T := TX2) (N := 36) X h hf (fun res hres => wX2_layBack l Γ 8 ad _ b0 0 a2 res hres) rfl (cwV 2 X.hts (lw_V q1469 q1471 qs72 q84 q1472) rfl rfl rfl (by decide +kernel) ⟨Nat.le_of_ble_eq_true rfl, Nat.le_of_ble_eq_true rfl⟩) rfl ⟨hl.1, Nat.le_of_ble_eq_true rfl, Nat.le_of_ble_eq_true rfl, Nat.le_of_ble_eq_true rfl⟩ rfl dX2_back_181 (fun μ44 H locs hf h => ?_)
                refine lv_aload_n X.hx X.hb dX2_back_184 rfl (lv_at hl 0 rfl) ?_
                refine r_getI X h (ci := 2) (k := 32) (C := RX2) (T := TX2) (N := 36) rfl in_X2 (by decide) q1091 rfl dX2_back_185 hf (fun x45 hf => ?_)
                refine r_jn hf (fun j47 ej47 hf => ?_)
                have hj47 : ∀  (μ46 : gM) (H : Heap) (locs : List Loc) (ls : Array Slot), j47  μ46 = some r → gWd Γ A μ0.1 ad μ46 s.heap H locs → lv_has ls 6 [(0, .ref (ad b0))] → W p l e ({ frames := 12, cells := 0, slots := 0, locals := 277 } : Room) s m args below meth c H locs 0 0 (MQ below (gQ0 Γ ad μ0.1 r A) args s 0 0 A) (F0 m 201 ls []) := by
                  intro μ46 H locs ls hf h hl
                  rw [ej47] at hf
                  refine lv_aload_n X.hx X.hb dX2_back_201 rfl (lv_at hl 0 rfl) ?_
                  refine r_getI X h (ci := 2) (k := 32) (C := RX2) (T := TX2) (N := 36) rfl in_X2 (by decide) q1091 rfl dX2_back_202 hf (fun x48 hf => ?_)
                  exact r_ri X h hr hlk (Nat.le_of_ble_eq_true rfl) (Nat.le_of_ble_eq_true rfl) dX2_back_205 hf
                clear ej47
                refine lv_if_le (tgt := 201) X.hx X.hb dX2_back_188 (by decide) (fun hc => ?_) (fun hc => ?_)
                · replace hf := gif_t hf hc
                  clear hc
                  exact hj47 _ _ _ _ hf h (lv_sub hl [0] rfl)
                · replace hf := gif_f hf hc
                  clear hc
                  refine lv_aload_n X.hx X.hb dX2_back_191 rfl (lv_at hl 0 rfl) ?_
                  refine lv_iload_n X.hx X.hb dX2_back_192 rfl (lv_at hl 2 rfl) ?_
                  refine lv_aload_n X.hx X.hb dX2_back_193 rfl (lv_at hl 0 rfl) ?_
                  refine r_getP X h (ci := 2) (k := 29) (C := RX2) (T := TX2) (N := 36) rfl in_X2 (by decide) q1088 rfl dX2_back_194 hf (fun i49 hf => ?_)
                  refine lv_iload_n X.hx X.hb dX2_back_197 rfl (lv_at hl 1 rfl) ?_
                  refine r_cVV (As := [.int a3, .ref (ad i49), .int a2]) (rest := []) (C := RX2) (T := TX2) (N := 36) X h hf (fun res hres => wX2_layRow l Γ ad _ b0 a3 i49 a2 res hres) rfl (cwV 3 X.hts (lw_V q1418 q1420 qs66 q84 q1421) rfl rfl rfl (by decide +kernel) ⟨Nat.le_of_ble_eq_true rfl, Nat.le_of_ble_eq_true rfl⟩) rfl ⟨hl.1, Nat.le_of_ble_eq_true rfl, Nat.le_of_ble_eq_true rfl, Nat.le_of_ble_eq_true rfl⟩ rfl dX2_back_198 (fun μ50 H locs hf h => ?_)
                  exact hj47 _ _ _ _ hf h (lv_sub hl [0] rfl)
              · replace hf := gif_t hf hc
                clear hc
                refine lv_aload_n X.hx X.hb dX2_back_124 rfl (lv_at hl 0 rfl) ?_
                refine lv_iconst (v := 3) X.hx X.hb dX2_back_125 (by decide) ?_
                refine r_cVI (As := [.int 3]) (rest := []) (C := RX2) (T := TX2) (N := 36) X h hf (fun res hres => wX2_meets l Γ ad _ b0 3 res hres) rfl (cwV 1 X.hts (lw_V q1199 q1201 qs38 q84 q1202) rfl rfl rfl (by decide +kernel) ⟨Nat.le_of_ble_eq_true rfl, Nat.le_of_ble_eq_true rfl⟩) rfl ⟨hl.1, Nat.le_of_ble_eq_true rfl, Nat.le_of_ble_eq_true rfl, Nat.le_of_ble_eq_true rfl⟩ rfl dX2_back_126 (fun x51 μ52 H locs hf h => ?_)
                exact r_ri X h hr hlk (Nat.le_of_ble_eq_true rfl) (Nat.le_of_ble_eq_true rfl) dX2_back_129 hf
            · replace hf := gif_f hf hc
              clear hc
              refine lv_aload_n X.hx X.hb dX2_back_63 rfl (lv_at hl 0 rfl) ?_
              refine lv_iconst (v := 5) X.hx X.hb dX2_back_64 (by decide) ?_
              refine r_cVI (As := [.int 5]) (rest := []) (C := RX2) (T := TX2) (N := 36) X h hf (fun res hres => wX2_meets l Γ ad _ b0 5 res hres) rfl (cwV 1 X.hts (lw_V q1199 q1201 qs38 q84 q1202) rfl rfl rfl (by decide +kernel) ⟨Nat.le_of_ble_eq_true rfl, Nat.le_of_ble_eq_true rfl⟩) rfl ⟨hl.1, Nat.le_of_ble_eq_true rfl, Nat.le_of_ble_eq_true rfl, Nat.le_of_ble_eq_true rfl⟩ rfl dX2_back_65 (fun x53 μ54 H locs hf h => ?_)
              exact r_ri X h hr hlk (Nat.le_of_ble_eq_true rfl) (Nat.le_of_ble_eq_true rfl) dX2_back_68 hf
          · replace hf := gif_f hf hc
            clear hc
            refine lv_aload_n X.hx X.hb dX2_back_44 rfl (lv_at hl 0 rfl) ?_
            refine lv_iconst (v := 1) X.hx X.hb dX2_back_45 (by decide) ?_
            refine r_cVI (As := [.int 1]) (rest := []) (C := RX2) (T := TX2) (N := 36) X h hf (fun res hres => wX2_meets l Γ ad _ b0 1 res hres) rfl (cwV 1 X.hts (lw_V q1199 q1201 qs38 q84 q1202) rfl rfl rfl (by decide +kernel) ⟨Nat.le_of_ble_eq_true rfl, Nat.le_of_ble_eq_true rfl⟩) rfl ⟨hl.1, Nat.le_of_ble_eq_true rfl, Nat.le_of_ble_eq_true rfl, Nat.le_of_ble_eq_true rfl⟩ rfl dX2_back_46 (fun x55 μ56 H locs hf h => ?_)
            exact r_ri X h hr hlk (Nat.le_of_ble_eq_true rfl) (Nat.le_of_ble_eq_true rfl) dX2_back_49 hf
        · replace hf := gif_t hf hc
          clear hc
          refine lv_bipush (v := (-4)) X.hx X.hb dX2_back_32 (by decide) ?_
          exact r_ri X h hr hlk (Nat.le_of_ble_eq_true rfl) (Nat.le_of_ble_eq_true rfl) dX2_back_34 hf
      · replace hf := gif_t hf hc
        clear hc
        refine lv_iconst (v := (-1)) X.hx X.hb dX2_back_23 (by decide) ?_
        exact r_ri X h hr hlk (Nat.le_of_ble_eq_true rfl) (Nat.le_of_ble_eq_true rfl) dX2_back_24 hf
/-! X2_layBest -/
def fX2_layBest_L42 (rec : gM → Nat → Int32 → Int32 → gR) (b0 : Nat) (a1 : Int32) (a2 : Int32) : Nat → Int32 → gM → gR
  | 0, _, _ => none
  | n3 + 1, x1, μ2 => gI (gfld μ2 b0 2 11) fun x4 => if x4 ≤ x1 then (some (none, μ2)) else (gis μ2 b0 2 <| cI (fX2_canPlay μ2 b0 a1 x1) fun x5 μ6 => gjn (fun  (μ7 : gM) => gnm (x1 + 1) fun x9 => fX2_layBest_L42 rec b0 a1 a2 n3 x9 μ7) fun j8 => if x5 = 0 then (j8 μ6) else (gis μ6 b0 2 <| cV (fX2_copyTo μ6 b0 a1 (a1 + 1)) fun μ10 => gis μ10 b0 2 <| cV (fX2_plays μ10 b0 (a1 + 1) x1) fun μ11 => gP (gfld μ11 b0 2 28) fun i12 => gsI μ11 0 i12 a1 x1 fun μ13 => gis μ13 b0 2 <| cV (rec μ13 b0 (a1 + 1) a2) fun μ14 => j8 μ14))
set_option maxHeartbeats 4000000 in
theorem wX2_layBest_L42 {p : Program} {e : Env} {s : State} {m : MethodId} {args : Array Value} {below : List Frame} {meth : Method} {c : Code} {Γ : gG} {A : Nat → Prop} {nz : Nat} {ad : Nat → Nat} {r : Option Value × gM} (l : Launch) (dd : Nat) (rec : gM → Nat → Int32 → Int32 → gR) (b0 : Nat) (a1 : Int32) (a2 : Int32) (X : gX p m c cX2_layBest 4 s args "SandPianoModel" Γ A) (hr : meth.sig.returnType = none) (hlk : meth.locks = false) (hrec : ∀ (ad : Nat → Nat) (μ : gM) (b0 : Nat) (a1 : Int32) (a2 : Int32) (r : Option Value × gM), rec μ b0 a1 a2 = some r → gMt0 l Γ yX2_layBest (ws_ yX2_layBest cX2_layBest 4 none) ({ frames := 3 + dd, cells := 0, slots := 0, locals := 70 + dd * 23 } : Room) 0 0 ad μ [.ref (ad b0), .int a1, .int a2] r) : ∀ (n3 : Nat) (x1 : Int32) (μ2 : gM) (H : Heap) (locs : List Loc) (ls : Array Slot), fX2_layBest_L42 rec b0 a1 a2 n3 x1 μ2 = some r → gWd Γ A nz ad μ2 s.heap H locs → lv_has ls 4 [(0, .ref (ad b0)), (1, .int a1), (2, .int a2), (3, .int x1)] → W p l e ({ frames := 3 + (dd + 1), cells := 0, slots := 0, locals := 70 + (dd + 1) * 23 } : Room) s m args below meth c H locs 0 0 (MQ below (gQ0 Γ ad nz r A) args s 0 0 A) (F0 m 42 ls []) := by
  intro n3
  induction n3 with
  | zero =>
    intro x1 μ2 H locs ls hf h hl
    have hf : (none : gR) = some r := hf
    cases hf
  | succ n3 ih =>
    intro x1 μ2 H locs ls hf h hl
    rw [fX2_layBest_L42] at hf
    refine lv_iload_n X.hx X.hb dX2_layBest_42 rfl (lv_at hl 3 rfl) ?_
    refine lv_aload_n X.hx X.hb dX2_layBest_43 rfl (lv_at hl 0 rfl) ?_
    refine r_getI X h (ci := 2) (k := 11) (C := RX2) (T := TX2) (N := 36) rfl in_X2 (by decide) q1070 rfl dX2_layBest_44 hf (fun x4 hf => ?_)
    refine lv_icmp_ge (tgt := 96) X.hx X.hb dX2_layBest_47 (by decide) (fun hc => ?_) (fun hc => ?_)
    · replace hf := gif_t hf hc
      clear hc
      exact r_rv X h hr hlk ((by first | exact Nat.le_of_ble_eq_true rfl | omega | (dsimp only; omega))) ((by first | exact Nat.le_of_ble_eq_true rfl | omega | (dsimp only; omega))) dX2_layBest_96 hf
    · replace hf := gif_f hf hc
      clear hc
      refine lv_aload_n X.hx X.hb dX2_layBest_50 rfl (lv_at hl 0 rfl) ?_
      refine lv_iload_n X.hx X.hb dX2_layBest_51 rfl (lv_at hl 1 rfl) ?_
      refine lv_iload_n X.hx X.hb dX2_layBest_52 rfl (lv_at hl 3 rfl) ?_
      refine r_cVI (As := [.int a1, .int x1]) (rest := []) (C := RX2) (T := TX2) (N := 36) X h hf (fun res hres => wX2_canPlay l Γ ad _ b0 a1 x1 res hres) rfl (cwV 2 X.hts (lw_V q1293 q1295 qs50 q84 q1296) rfl rfl rfl (by decide +kernel) ⟨(by first | exact Nat.le_of_ble_eq_true rfl | omega | (dsimp only; omega)), (by first | exact Nat.le_of_ble_eq_true rfl | omega | (dsimp only; omega))⟩) rfl ⟨hl.1, Nat.le_of_ble_eq_true rfl, (by first | exact Nat.le_of_ble_eq_true rfl | omega | (dsimp only; omega)), (by first | exact Nat.le_of_ble_eq_true rfl | omega | (dsimp only; omega))⟩ rfl dX2_layBest_53 (fun x5 μ6 H locs hf h => ?_)
      refine r_jn hf (fun j8 ej8 hf => ?_)
      have hj8 : ∀  (μ7 : gM) (H : Heap) (locs : List Loc) (ls : Array Slot), j8  μ7 = some r → gWd Γ A nz ad μ7 s.heap H locs → lv_has ls 4 [(0, .ref (ad b0)), (1, .int a1), (2, .int a2), (3, .int x1)] → W p l e ({ frames := 3 + (dd + 1), cells := 0, slots := 0, locals := 70 + (dd + 1) * 23 } : Room) s m args below meth c H locs 0 0 (MQ below (gQ0 Γ ad nz r A) args s 0 0 A) (F0 m 90 ls []) := by
        intro μ7 H locs ls hf h hl
        rw [ej8] at hf
        refine r_nmk hf (fun x9 ex hf => ?_)
        refine lv_iinc (v := x9) (lv' := [(3, .int x9), (0, .ref (ad b0)), (1, .int a1), (2, .int a2)]) X.hx X.hb dX2_layBest_90 hl (k := 3) rfl (by rw [ex]; rfl) (by decide) rfl (fun ls hl => ?_)
        clear ex
        refine lv_goto (tgt := 42) X.hx X.hb dX2_layBest_93 (by decide) ?_
        exact ih _ _ _ _ _ hf h (lv_sub hl [1, 2, 3, 0] rfl)
      clear ej8
      refine lv_if_eq (tgt := 90) X.hx X.hb dX2_layBest_56 (by decide) (fun hc => ?_) (fun hc => ?_)
      · replace hf := gif_t hf hc
        clear hc
        exact hj8 _ _ _ _ hf h (lv_sub hl [0, 1, 2, 3] rfl)
      · replace hf := gif_f hf hc
        clear hc
        refine lv_aload_n X.hx X.hb dX2_layBest_59 rfl (lv_at hl 0 rfl) ?_
        refine lv_iload_n X.hx X.hb dX2_layBest_60 rfl (lv_at hl 1 rfl) ?_
        refine lv_iload_n X.hx X.hb dX2_layBest_61 rfl (lv_at hl 1 rfl) ?_
        refine lv_iconst (v := 1) X.hx X.hb dX2_layBest_62 (by decide) ?_
        refine lv_iadd X.hx X.hb dX2_layBest_63 ?_
        refine r_cVV (As := [.int a1, .int (a1 + 1)]) (rest := []) (C := RX2) (T := TX2) (N := 36) X h hf (fun res hres => wX2_copyTo l Γ ad _ b0 a1 (a1 + 1) res hres) rfl (cwV 2 X.hts (lw_V q1398 q1400 qs63 q84 q1401) rfl rfl rfl (by decide +kernel) ⟨(by first | exact Nat.le_of_ble_eq_true rfl | omega | (dsimp only; omega)), (by first | exact Nat.le_of_ble_eq_true rfl | omega | (dsimp only; omega))⟩) rfl ⟨hl.1, Nat.le_of_ble_eq_true rfl, (by first | exact Nat.le_of_ble_eq_true rfl | omega | (dsimp only; omega)), (by first | exact Nat.le_of_ble_eq_true rfl | omega | (dsimp only; omega))⟩ rfl dX2_layBest_64 (fun μ10 H locs hf h => ?_)
        refine lv_aload_n X.hx X.hb dX2_layBest_67 rfl (lv_at hl 0 rfl) ?_
        refine lv_iload_n X.hx X.hb dX2_layBest_68 rfl (lv_at hl 1 rfl) ?_
        refine lv_iconst (v := 1) X.hx X.hb dX2_layBest_69 (by decide) ?_
        refine lv_iadd X.hx X.hb dX2_layBest_70 ?_
        refine lv_iload_n X.hx X.hb dX2_layBest_71 rfl (lv_at hl 3 rfl) ?_
        refine r_cVV (As := [.int (a1 + 1), .int x1]) (rest := []) (C := RX2) (T := TX2) (N := 36) X h hf (fun res hres => wX2_plays l Γ ad _ b0 (a1 + 1) x1 res hres) rfl (cwV 2 X.hts (lw_V q1330 q1332 qs54 q84 q1333) rfl rfl rfl (by decide +kernel) ⟨(by first | exact Nat.le_of_ble_eq_true rfl | omega | (dsimp only; omega)), (by first | exact Nat.le_of_ble_eq_true rfl | omega | (dsimp only; omega))⟩) rfl ⟨hl.1, Nat.le_of_ble_eq_true rfl, (by first | exact Nat.le_of_ble_eq_true rfl | omega | (dsimp only; omega)), (by first | exact Nat.le_of_ble_eq_true rfl | omega | (dsimp only; omega))⟩ rfl dX2_layBest_72 (fun μ11 H locs hf h => ?_)
        refine lv_aload_n X.hx X.hb dX2_layBest_75 rfl (lv_at hl 0 rfl) ?_
        refine r_getP X h (ci := 2) (k := 28) (C := RX2) (T := TX2) (N := 36) rfl in_X2 (by decide) q1087 rfl dX2_layBest_76 hf (fun i12 hf => ?_)
        refine lv_iload_n X.hx X.hb dX2_layBest_79 rfl (lv_at hl 1 rfl) ?_
        refine lv_iload_n X.hx X.hb dX2_layBest_80 rfl (lv_at hl 3 rfl) ?_
        refine r_iast X h dX2_layBest_81 hf (fun μ13 H locs hf h => ?_)
        refine lv_aload_n X.hx X.hb dX2_layBest_82 rfl (lv_at hl 0 rfl) ?_
        refine lv_iload_n X.hx X.hb dX2_layBest_83 rfl (lv_at hl 1 rfl) ?_
        refine lv_iconst (v := 1) X.hx X.hb dX2_layBest_84 (by decide) ?_
        refine lv_iadd X.hx X.hb dX2_layBest_85 ?_
        refine lv_iload_n X.hx X.hb dX2_layBest_86 rfl (lv_at hl 2 rfl) ?_
        refine r_cVV (As := [.int (a1 + 1), .int a2]) (rest := []) (C := RX2) (T := TX2) (N := 36) X h hf (fun res hres => hrec ad _ b0 (a1 + 1) a2 res hres) rfl (cwV 2 X.hts (lw_V q1449 q1451 qs69 q84 q1452) rfl rfl rfl (by decide +kernel) ⟨(by first | exact Nat.le_of_ble_eq_true rfl | omega | (dsimp only; omega)), (by first | exact Nat.le_of_ble_eq_true rfl | omega | (dsimp only; omega))⟩) rfl ⟨hl.1, Nat.le_of_ble_eq_true rfl, (by first | exact Nat.le_of_ble_eq_true rfl | omega | (dsimp only; omega)), (by first | exact Nat.le_of_ble_eq_true rfl | omega | (dsimp only; omega))⟩ rfl dX2_layBest_87 (fun μ14 H locs hf h => ?_)
        exact hj8 _ _ _ _ hf h (lv_sub hl [0, 1, 2, 3] rfl)
def fX2_layBest_B (rec : gM → Nat → Int32 → Int32 → gR) (μ0 : gM) (b0 : Nat) (a1 : Int32) (a2 : Int32) : gR := if a1 = a2 then (gis μ0 b0 2 <| cI (fX2_v μ0 b0 a1 8) fun x15 μ16 => gis μ16 b0 2 <| cI (fX2_v μ16 b0 0 8) fun x17 μ18 => gnm ((x15 - x17)) fun x19 => gI (gfld μ18 b0 2 31) fun x20 => if x19 ≤ x20 then (some (none, μ18)) else (gpf μ18 b0 2 31 (.int x19) fun μ21 => gis μ21 b0 2 <| cV (fX2_takeTried μ21 b0 a2) fun μ22 => some (none, μ22))) else (fX2_layBest_L42 rec b0 a1 a2 10000 0 μ0)
set_option maxHeartbeats 4000000 in
theorem wX2_layBest_B (l : Launch) (Γ : gG) (dd : Nat) (rec : gM → Nat → Int32 → Int32 → gR) (hrec : ∀ (ad : Nat → Nat) (μ : gM) (b0 : Nat) (a1 : Int32) (a2 : Int32) (r : Option Value × gM), rec μ b0 a1 a2 = some r → gMt0 l Γ yX2_layBest (ws_ yX2_layBest cX2_layBest 4 none) ({ frames := 3 + dd, cells := 0, slots := 0, locals := 70 + dd * 23 } : Room) 0 0 ad μ [.ref (ad b0), .int a1, .int a2] r) (ad : Nat → Nat) (μ0 : gM) (b0 : Nat) (a1 : Int32) (a2 : Int32) (r : Option Value × gM) (hf : fX2_layBest_B rec μ0 b0 a1 a2 = some r) : gMt0 l Γ yX2_layBest (ws_ yX2_layBest cX2_layBest 4 none) ({ frames := 3 + (dd + 1), cells := 0, slots := 0, locals := 70 + (dd + 1) * 23 } : Room) 0 0 ad μ0 [.ref (ad b0), .int a1, .int a2] r := by
  intro sz
  refine g_start (maxL := 4) (ret := none) (by decide) rfl g_all (Nat.le_of_ble_eq_true rfl) ?_
  intro p e s m below meth c ls hr hlk hnm X h hl
  generalize gA ad μ0 sz = A at X h ⊢
  generalize ([.ref (ad b0), .int a1, .int a2] : List Value).toArray = args at X ⊢
  have X : gX p m c cX2_layBest 4 s args "SandPianoModel" Γ A := X
  have hl : lv_has ls 4 [(0, .ref (ad b0)), (1, .int a1), (2, .int a2)] := hl
  show W p l e ({ frames := 3 + (dd + 1), cells := 0, slots := 0, locals := 70 + (dd + 1) * 23 } : Room) s m args below meth c s.heap [] 0 0 (MQ below (gQ0 Γ ad μ0.1 r A) args s 0 0 A) (F0 m 0 ls [])
  unfold fX2_layBest_B at hf
  refine lv_iload_n X.hx X.hb dX2_layBest_0 rfl (lv_at hl 1 rfl) ?_
  refine lv_iload_n X.hx X.hb dX2_layBest_1 rfl (lv_at hl 2 rfl) ?_
  refine lv_icmp_ne (tgt := 40) X.hx X.hb dX2_layBest_2 (by decide) (fun hc => ?_) (fun hc => ?_)
  · replace hf := gif_f hf hc
    clear hc
    refine lv_iconst (v := 0) X.hx X.hb dX2_layBest_40 (by decide) ?_
    refine lv_istore_n (lv' := [(3, .int 0), (0, .ref (ad b0)), (1, .int a1), (2, .int a2)]) X.hx X.hb dX2_layBest_41 rfl hl (by decide) rfl (fun ls hl => ?_)
    refine wX2_layBest_L42 l _ rec b0 a1 a2 X hr hlk hrec 10000 _ _ _ _ _ hf h (lv_sub hl [1, 2, 3, 0] rfl)
  · replace hf := gif_t hf hc
    clear hc
    refine lv_aload_n X.hx X.hb dX2_layBest_5 rfl (lv_at hl 0 rfl) ?_
    refine lv_iload_n X.hx X.hb dX2_layBest_6 rfl (lv_at hl 1 rfl) ?_
    refine lv_bipush (v := 8) X.hx X.hb dX2_layBest_7 (by decide) ?_
    refine r_cVI (As := [.int a1, .int 8]) (rest := []) (C := RX2) (T := TX2) (N := 36) X h hf (fun res hres => wX2_v l Γ ad _ b0 a1 8 res hres) rfl (cwV 2 X.hts (lw_V q1289 q1291 qs49 q84 q1292) rfl rfl rfl (by decide +kernel) ⟨(by first | exact Nat.le_of_ble_eq_true rfl | omega | (dsimp only; omega)), (by first | exact Nat.le_of_ble_eq_true rfl | omega | (dsimp only; omega))⟩) rfl ⟨hl.1, Nat.le_of_ble_eq_true rfl, (by first | exact Nat.le_of_ble_eq_true rfl | omega | (dsimp only; omega)), (by first | exact Nat.le_of_ble_eq_true rfl | omega | (dsimp only; omega))⟩ rfl dX2_layBest_9 (fun x15 μ16 H locs hf h => ?_)
    refine lv_aload_n X.hx X.hb dX2_layBest_12 rfl (lv_at hl 0 rfl) ?_
    refine lv_iconst (v := 0) X.hx X.hb dX2_layBest_13 (by decide) ?_
    refine lv_bipush (v := 8) X.hx X.hb dX2_layBest_14 (by decide) ?_
    refine r_cVI (As := [.int 0, .int 8]) (rest := [.int x15]) (C := RX2) (T := TX2) (N := 36) X h hf (fun res hres => wX2_v l Γ ad _ b0 0 8 res hres) rfl (cwV 2 X.hts (lw_V q1289 q1291 qs49 q84 q1292) rfl rfl rfl (by decide +kernel) ⟨(by first | exact Nat.le_of_ble_eq_true rfl | omega | (dsimp only; omega)), (by first | exact Nat.le_of_ble_eq_true rfl | omega | (dsimp only; omega))⟩) rfl ⟨hl.1, Nat.le_of_ble_eq_true rfl, (by first | exact Nat.le_of_ble_eq_true rfl | omega | (dsimp only; omega)), (by first | exact Nat.le_of_ble_eq_true rfl | omega | (dsimp only; omega))⟩ rfl dX2_layBest_16 (fun x17 μ18 H locs hf h => ?_)
    refine lv_isub X.hx X.hb dX2_layBest_19 ?_
    refine r_nmI hf (fun x19 hf => ?_)
    refine lv_istore_n (lv' := [(3, .int x19), (0, .ref (ad b0)), (1, .int a1), (2, .int a2)]) X.hx X.hb dX2_layBest_20 rfl hl (by decide) rfl (fun ls hl => ?_)
    refine lv_iload_n X.hx X.hb dX2_layBest_21 rfl (lv_at hl 0 rfl) ?_
    refine lv_aload_n X.hx X.hb dX2_layBest_22 rfl (lv_at hl 1 rfl) ?_
    refine r_getI X h (ci := 2) (k := 31) (C := RX2) (T := TX2) (N := 36) rfl in_X2 (by decide) q1090 rfl dX2_layBest_23 hf (fun x20 hf => ?_)
    refine lv_icmp_le (tgt := 39) X.hx X.hb dX2_layBest_26 (by decide) (fun hc => ?_) (fun hc => ?_)
    · replace hf := gif_t hf hc
      clear hc
      exact r_rv X h hr hlk ((by first | exact Nat.le_of_ble_eq_true rfl | omega | (dsimp only; omega))) ((by first | exact Nat.le_of_ble_eq_true rfl | omega | (dsimp only; omega))) dX2_layBest_39 hf
    · replace hf := gif_f hf hc
      clear hc
      refine lv_aload_n X.hx X.hb dX2_layBest_29 rfl (lv_at hl 1 rfl) ?_
      refine lv_iload_n X.hx X.hb dX2_layBest_30 rfl (lv_at hl 0 rfl) ?_
      refine r_put X h (ci := 2) (k := 31) (C := RX2) (T := TX2) (N := 36) (ty0 := tyX2) (ty := .int) (v := .int x19) rfl in_X2 tyX2_ok nmX2 (by decide) q1090 rfl rfl (by decide +kernel) rfl rfl (fun j hj => by cases hj) dX2_layBest_31 hf (fun μ21 H locs hf h => ?_)
      refine lv_aload_n X.hx X.hb dX2_layBest_34 rfl (lv_at hl 1 rfl) ?_
      refine lv_iload_n X.hx X.hb dX2_layBest_35 rfl (lv_at hl 3 rfl) ?_
      refine r_cVV (As := [.int a2]) (rest := []) (C := RX2) (T := TX2) (N := 36) X h hf (fun res hres => wX2_takeTried l Γ ad _ b0 a2 res hres) rfl (cwV 1 X.hts (lw_V q1438 q1440 qs68 q84 q1441) rfl rfl rfl (by decide +kernel) ⟨(by first | exact Nat.le_of_ble_eq_true rfl | omega | (dsimp only; omega)), (by first | exact Nat.le_of_ble_eq_true rfl | omega | (dsimp only; omega))⟩) rfl ⟨hl.1, Nat.le_of_ble_eq_true rfl, (by first | exact Nat.le_of_ble_eq_true rfl | omega | (dsimp only; omega)), (by first | exact Nat.le_of_ble_eq_true rfl | omega | (dsimp only; omega))⟩ rfl dX2_layBest_36 (fun μ22 H locs hf h => ?_)
      exact r_rv X h hr hlk ((by first | exact Nat.le_of_ble_eq_true rfl | omega | (dsimp only; omega))) ((by first | exact Nat.le_of_ble_eq_true rfl | omega | (dsimp only; omega))) dX2_layBest_39 hf
def fX2_layBest : Nat → gM → Nat → Int32 → Int32 → gR
  | 0, _, _, _, _ => none
  | d + 1, μ0, b0, a1, a2 => fX2_layBest_B (fX2_layBest d) μ0 b0 a1 a2
theorem wX2_layBest (l : Launch) (Γ : gG) : ∀ (dd : Nat) (ad : Nat → Nat) (μ0 : gM) (b0 : Nat) (a1 : Int32) (a2 : Int32) (r : Option Value × gM), fX2_layBest dd μ0 b0 a1 a2 = some r → gMt0 l Γ yX2_layBest (ws_ yX2_layBest cX2_layBest 4 none) ({ frames := 3 + dd, cells := 0, slots := 0, locals := 70 + dd * 23 } : Room) 0 0 ad μ0 [.ref (ad b0), .int a1, .int a2] r := by
  intro dd
  induction dd with
  | zero =>
    intro ad μ0 b0 a1 a2 r hf
    have hf : (none : gR) = some r := hf
    cases hf
  | succ dd ih =>
    intro ad μ0 b0 a1 a2 r hf
    exact wX2_layBest_B l Γ dd (fX2_layBest dd) ih ad μ0 b0 a1 a2 r hf
/-! X2_best -/
def fX2_best (μ0 : gM) (b0 : Nat) (a1 : Int32) (a2 : Int32) : gR := cI (fX2_in μ0 a1 0 5) fun x1 μ2 => if x1 = 0 then (some (some (.int (-1)), μ2)) else (cI (fX2_isRow μ2 a2) fun x3 μ4 => if x3 = 0 then (some (some (.int (-1)), μ4)) else (gI (gfld μ4 b0 2 11) fun x5 => if x5 = 0 then (some (some (.int (-4)), μ4)) else (gpf μ4 b0 2 31 (.int (-1)) fun μ6 => gis μ6 b0 2 <| cV (fX2_layBest 8 μ6 b0 0 a1) fun μ7 => gI (gfld μ7 b0 2 31) fun x8 => if 0 ≤ x8 then (gP (gfld μ7 b0 2 29) fun i9 => gis μ7 b0 2 <| cV (fX2_layRow μ7 b0 a2 i9 a1) fun μ10 => gI (gfld μ10 b0 2 31) fun x11 => some (some (.int x11), μ10)) else (some (some (.int (-9)), μ7)))))
set_option maxHeartbeats 4000000 in
theorem wX2_best (l : Launch) (Γ : gG) (ad : Nat → Nat) (μ0 : gM) (b0 : Nat) (a1 : Int32) (a2 : Int32) (r : Option Value × gM) (hf : fX2_best μ0 b0 a1 a2 = some r) : gMt0 l Γ yX2_best (ws_ yX2_best cX2_best 3 (some .int)) ({ frames := 12, cells := 0, slots := 0, locals := 277 } : Room) 0 0 ad μ0 [.ref (ad b0), .int a1, .int a2] r := by
  intro sz
  refine g_start (maxL := 3) (ret := (some .int)) (by decide) rfl g_all (Nat.le_of_ble_eq_true rfl) ?_
  intro p e s m below meth c ls hr hlk hnm X h hl
  generalize gA ad μ0 sz = A at X h ⊢
  generalize ([.ref (ad b0), .int a1, .int a2] : List Value).toArray = args at X ⊢
  have X : gX p m c cX2_best 3 s args "SandPianoModel" Γ A := X
  have hl : lv_has ls 3 [(0, .ref (ad b0)), (1, .int a1), (2, .int a2)] := hl
  show W p l e ({ frames := 12, cells := 0, slots := 0, locals := 277 } : Room) s m args below meth c s.heap [] 0 0 (MQ below (gQ0 Γ ad μ0.1 r A) args s 0 0 A) (F0 m 0 ls [])
  unfold fX2_best at hf
  refine lv_iload_n X.hx X.hb dX2_best_0 rfl (lv_at hl 1 rfl) ?_
  refine lv_iconst (v := 0) X.hx X.hb dX2_best_1 (by decide) ?_
  refine lv_iconst (v := 5) X.hx X.hb dX2_best_2 (by decide) ?_
  refine r_cSI (As := [.int a1, .int 0, .int 5]) (rest := []) X h hf (fun res hres => wX2_in l Γ ad _ a1 0 5 res hres) (va_cwS 3 X.hts (lw_S q1177 q1178 q84 q1179) rfl rfl rfl (by decide +kernel) ⟨Nat.le_of_ble_eq_true rfl, Nat.le_of_ble_eq_true rfl⟩) rfl ⟨hl.1, Nat.le_of_ble_eq_true rfl, Nat.le_of_ble_eq_true rfl, Nat.le_of_ble_eq_true rfl⟩ rfl dX2_best_3 (fun x1 μ2 H locs hf h => ?_)
  refine lv_if_eq (tgt := 16) X.hx X.hb dX2_best_6 (by decide) (fun hc => ?_) (fun hc => ?_)
  · replace hf := gif_t hf hc
    clear hc
    refine lv_iconst (v := (-1)) X.hx X.hb dX2_best_16 (by decide) ?_
    exact r_ri X h hr hlk (Nat.le_of_ble_eq_true rfl) (Nat.le_of_ble_eq_true rfl) dX2_best_17 hf
  · replace hf := gif_f hf hc
    clear hc
    refine lv_iload_n X.hx X.hb dX2_best_9 rfl (lv_at hl 2 rfl) ?_
    refine r_cSI (As := [.int a2]) (rest := []) X h hf (fun res hres => wX2_isRow l Γ ad _ a2 res hres) (va_cwS 1 X.hts (lw_S q1196 q1197 q84 q1198) rfl rfl rfl (by decide +kernel) ⟨Nat.le_of_ble_eq_true rfl, Nat.le_of_ble_eq_true rfl⟩) rfl ⟨hl.1, Nat.le_of_ble_eq_true rfl, Nat.le_of_ble_eq_true rfl, Nat.le_of_ble_eq_true rfl⟩ rfl dX2_best_10 (fun x3 μ4 H locs hf h => ?_)
    refine lv_if_ne (tgt := 18) X.hx X.hb dX2_best_13 (by decide) (fun hc => ?_) (fun hc => ?_)
    · replace hf := gif_f hf hc
      clear hc
      refine lv_aload_n X.hx X.hb dX2_best_18 rfl (lv_at hl 0 rfl) ?_
      refine r_getI X h (ci := 2) (k := 11) (C := RX2) (T := TX2) (N := 36) rfl in_X2 (by decide) q1070 rfl dX2_best_19 hf (fun x5 hf => ?_)
      refine lv_if_ne (tgt := 28) X.hx X.hb dX2_best_22 (by decide) (fun hc => ?_) (fun hc => ?_)
      · replace hf := gif_f hf hc
        clear hc
        refine lv_aload_n X.hx X.hb dX2_best_28 rfl (lv_at hl 0 rfl) ?_
        refine lv_iconst (v := (-1)) X.hx X.hb dX2_best_29 (by decide) ?_
        refine r_put X h (ci := 2) (k := 31) (C := RX2) (T := TX2) (N := 36) (ty0 := tyX2) (ty := .int) (v := .int (-1)) rfl in_X2 tyX2_ok nmX2 (by decide) q1090 rfl rfl (by decide +kernel) rfl rfl (fun j hj => by cases hj) dX2_best_30 hf (fun μ6 H locs hf h => ?_)
        refine lv_aload_n X.hx X.hb dX2_best_33 rfl (lv_at hl 0 rfl) ?_
        refine lv_iconst (v := 0) X.hx X.hb dX2_best_34 (by decide) ?_
        refine lv_iload_n X.hx X.hb dX2_best_35 rfl (lv_at hl 1 rfl) ?_
        refine r_cVV (As := [.int 0, .int a1]) (rest := []) (C := RX2) (T := TX2) (N := 36) X h hf (fun res hres => wX2_layBest l Γ 8 ad _ b0 0 a1 res hres) rfl (cwV 2 X.hts (lw_V q1449 q1451 qs69 q84 q1452) rfl rfl rfl (by decide +kernel) ⟨Nat.le_of_ble_eq_true rfl, Nat.le_of_ble_eq_true rfl⟩) rfl ⟨hl.1, Nat.le_of_ble_eq_true rfl, Nat.le_of_ble_eq_true rfl, Nat.le_of_ble_eq_true rfl⟩ rfl dX2_best_36 (fun μ7 H locs hf h => ?_)
        refine lv_aload_n X.hx X.hb dX2_best_39 rfl (lv_at hl 0 rfl) ?_
        refine r_getI X h (ci := 2) (k := 31) (C := RX2) (T := TX2) (N := 36) rfl in_X2 (by decide) q1090 rfl dX2_best_40 hf (fun x8 hf => ?_)
        refine lv_if_ge (tgt := 49) X.hx X.hb dX2_best_43 (by decide) (fun hc => ?_) (fun hc => ?_)
        · replace hf := gif_t hf hc
          clear hc
          refine lv_aload_n X.hx X.hb dX2_best_49 rfl (lv_at hl 0 rfl) ?_
          refine lv_iload_n X.hx X.hb dX2_best_50 rfl (lv_at hl 2 rfl) ?_
          refine lv_aload_n X.hx X.hb dX2_best_51 rfl (lv_at hl 0 rfl) ?_
          refine r_getP X h (ci := 2) (k := 29) (C := RX2) (T := TX2) (N := 36) rfl in_X2 (by decide) q1088 rfl dX2_best_52 hf (fun i9 hf => ?_)
          refine lv_iload_n X.hx X.hb dX2_best_55 rfl (lv_at hl 1 rfl) ?_
          refine r_cVV (As := [.int a2, .ref (ad i9), .int a1]) (rest := []) (C := RX2) (T := TX2) (N := 36) X h hf (fun res hres => wX2_layRow l Γ ad _ b0 a2 i9 a1 res hres) rfl (cwV 3 X.hts (lw_V q1418 q1420 qs66 q84 q1421) rfl rfl rfl (by decide +kernel) ⟨Nat.le_of_ble_eq_true rfl, Nat.le_of_ble_eq_true rfl⟩) rfl ⟨hl.1, Nat.le_of_ble_eq_true rfl, Nat.le_of_ble_eq_true rfl, Nat.le_of_ble_eq_true rfl⟩ rfl dX2_best_56 (fun μ10 H locs hf h => ?_)
          refine lv_aload_n X.hx X.hb dX2_best_59 rfl (lv_at hl 0 rfl) ?_
          refine r_getI X h (ci := 2) (k := 31) (C := RX2) (T := TX2) (N := 36) rfl in_X2 (by decide) q1090 rfl dX2_best_60 hf (fun x11 hf => ?_)
          exact r_ri X h hr hlk (Nat.le_of_ble_eq_true rfl) (Nat.le_of_ble_eq_true rfl) dX2_best_63 hf
        · replace hf := gif_f hf hc
          clear hc
          refine lv_bipush (v := (-9)) X.hx X.hb dX2_best_46 (by decide) ?_
          exact r_ri X h hr hlk (Nat.le_of_ble_eq_true rfl) (Nat.le_of_ble_eq_true rfl) dX2_best_48 hf
      · replace hf := gif_t hf hc
        clear hc
        refine lv_bipush (v := (-4)) X.hx X.hb dX2_best_25 (by decide) ?_
        exact r_ri X h hr hlk (Nat.le_of_ble_eq_true rfl) (Nat.le_of_ble_eq_true rfl) dX2_best_27 hf
    · replace hf := gif_t hf hc
      clear hc
      refine lv_iconst (v := (-1)) X.hx X.hb dX2_best_16 (by decide) ?_
      exact r_ri X h hr hlk (Nat.le_of_ble_eq_true rfl) (Nat.le_of_ble_eq_true rfl) dX2_best_17 hf
/-! X2_bits -/
def fX2_bits_L4 : Nat → Int32 → Int32 → gM → gR
  | 0, _, _, _ => none
  | n4 + 1, x1, x2, μ3 => if x2 = 0 then (some (some (.int x1), μ3)) else (gnm (x1 + 1) fun x5 => gnm ((x2 &&& (x2 - 1))) fun x6 => fX2_bits_L4 n4 x5 x6 μ3)
set_option maxHeartbeats 4000000 in
theorem wX2_bits_L4 {p : Program} {e : Env} {s : State} {m : MethodId} {args : Array Value} {below : List Frame} {meth : Method} {c : Code} {Γ : gG} {A : Nat → Prop} {nz : Nat} {ad : Nat → Nat} {r : Option Value × gM} (l : Launch) (X : gX p m c cX2_bits 3 s args "SandPianoModel" Γ A) (hr : meth.sig.returnType = (some .int)) (hlk : meth.locks = false) : ∀ (n4 : Nat) (x1 : Int32) (x2 : Int32) (μ3 : gM) (H : Heap) (locs : List Loc) (ls : Array Slot), fX2_bits_L4 n4 x1 x2 μ3 = some r → gWd Γ A nz ad μ3 s.heap H locs → lv_has ls 3 [(1, .int x1), (2, .int x2)] → W p l e ({ frames := 0, cells := 0, slots := 0, locals := 0 } : Room) s m args below meth c H locs 0 0 (MQ below (gQ0 Γ ad nz r A) args s 0 0 A) (F0 m 4 ls []) := by
  intro n4
  induction n4 with
  | zero =>
    intro x1 x2 μ3 H locs ls hf h hl
    have hf : (none : gR) = some r := hf
    cases hf
  | succ n4 ih =>
    intro x1 x2 μ3 H locs ls hf h hl
    rw [fX2_bits_L4] at hf
    refine lv_iload_n X.hx X.hb dX2_bits_4 rfl (lv_at hl 1 rfl) ?_
    refine lv_if_eq (tgt := 20) X.hx X.hb dX2_bits_5 (by decide) (fun hc => ?_) (fun hc => ?_)
    · replace hf := gif_t hf hc
      clear hc
      refine lv_iload_n X.hx X.hb dX2_bits_20 rfl (lv_at hl 0 rfl) ?_
      exact r_ri X h hr hlk (Nat.le_of_ble_eq_true rfl) (Nat.le_of_ble_eq_true rfl) dX2_bits_21 hf
    · replace hf := gif_f hf hc
      clear hc
      refine r_nmk hf (fun x5 ex hf => ?_)
      refine lv_iinc (v := x5) (lv' := [(1, .int x5), (2, .int x2)]) X.hx X.hb dX2_bits_8 hl (k := 0) rfl (by rw [ex]; rfl) (by decide) rfl (fun ls hl => ?_)
      clear ex
      refine lv_iload_n X.hx X.hb dX2_bits_11 rfl (lv_at hl 1 rfl) ?_
      refine lv_iload_n X.hx X.hb dX2_bits_12 rfl (lv_at hl 1 rfl) ?_
      refine lv_iconst (v := 1) X.hx X.hb dX2_bits_13 (by decide) ?_
      refine lv_isub X.hx X.hb dX2_bits_14 ?_
      refine lv_iand X.hx X.hb dX2_bits_15 ?_
      refine r_nmI hf (fun x6 hf => ?_)
      refine lv_istore_n (lv' := [(2, .int x6), (1, .int x5)]) X.hx X.hb dX2_bits_16 rfl hl (by decide) rfl (fun ls hl => ?_)
      refine lv_goto (tgt := 4) X.hx X.hb dX2_bits_17 (by decide) ?_
      exact ih _ _ _ _ _ _ hf h (lv_sub hl [1, 0] rfl)
def fX2_bits (μ0 : gM) (a1 : Int32) : gR := fX2_bits_L4 10000 0 a1 μ0
set_option maxHeartbeats 4000000 in
theorem wX2_bits (l : Launch) (Γ : gG) (ad : Nat → Nat) (μ0 : gM) (a1 : Int32) (r : Option Value × gM) (hf : fX2_bits μ0 a1 = some r) : gMt0 l Γ yX2_bits (ws_ yX2_bits cX2_bits 3 (some .int)) ({ frames := 0, cells := 0, slots := 0, locals := 0 } : Room) 0 0 ad μ0 [.int a1] r := by
  intro sz
  refine g_start (maxL := 3) (ret := (some .int)) (by decide) rfl g_all (Nat.le_of_ble_eq_true rfl) ?_
  intro p e s m below meth c ls hr hlk hnm X h hl
  generalize gA ad μ0 sz = A at X h ⊢
  generalize ([.int a1] : List Value).toArray = args at X ⊢
  have X : gX p m c cX2_bits 3 s args "SandPianoModel" Γ A := X
  have hl : lv_has ls 3 [(0, .int a1)] := hl
  show W p l e ({ frames := 0, cells := 0, slots := 0, locals := 0 } : Room) s m args below meth c s.heap [] 0 0 (MQ below (gQ0 Γ ad μ0.1 r A) args s 0 0 A) (F0 m 0 ls [])
  unfold fX2_bits at hf
  refine lv_iconst (v := 0) X.hx X.hb dX2_bits_0 (by decide) ?_
  refine lv_istore_n (lv' := [(1, .int 0), (0, .int a1)]) X.hx X.hb dX2_bits_1 rfl hl (by decide) rfl (fun ls hl => ?_)
  refine lv_iload_n X.hx X.hb dX2_bits_2 rfl (lv_at hl 1 rfl) ?_
  refine lv_istore_n (lv' := [(2, .int a1), (1, .int 0), (0, .int a1)]) X.hx X.hb dX2_bits_3 rfl hl (by decide) rfl (fun ls hl => ?_)
  refine wX2_bits_L4 l X hr hlk 10000 _ _ _ _ _ _ hf h (lv_sub hl [1, 0] rfl)
/-! X2_canSet -/
def fX2_canSet_L4 (b0 : Nat) (a1 : Int32) : Nat → Int32 → Int32 → gM → gR
  | 0, _, _, _ => none
  | n4 + 1, x1, x2, μ3 => gI (gfld μ3 b0 2 11) fun x5 => if x5 ≤ x2 then (some (some (.int x1), μ3)) else (gis μ3 b0 2 <| cI (fX2_canPlay μ3 b0 a1 x2) fun x6 μ7 => gjn (fun (x8 : Int32) (μ9 : gM) => gnm ((x1 ||| x8)) fun x11 => gnm (x2 + 1) fun x12 => fX2_canSet_L4 b0 a1 n4 x11 x12 μ9) fun j10 => if x6 = 0 then (j10 0 μ7) else (j10 (1 <<< (x2 &&& 31)) μ7))
set_option maxHeartbeats 4000000 in
theorem wX2_canSet_L4 {p : Program} {e : Env} {s : State} {m : MethodId} {args : Array Value} {below : List Frame} {meth : Method} {c : Code} {Γ : gG} {A : Nat → Prop} {nz : Nat} {ad : Nat → Nat} {r : Option Value × gM} (l : Launch) (b0 : Nat) (a1 : Int32) (X : gX p m c cX2_canSet 4 s args "SandPianoModel" Γ A) (hr : meth.sig.returnType = (some .int)) (hlk : meth.locks = false) : ∀ (n4 : Nat) (x1 : Int32) (x2 : Int32) (μ3 : gM) (H : Heap) (locs : List Loc) (ls : Array Slot), fX2_canSet_L4 b0 a1 n4 x1 x2 μ3 = some r → gWd Γ A nz ad μ3 s.heap H locs → lv_has ls 4 [(0, .ref (ad b0)), (1, .int a1), (2, .int x1), (3, .int x2)] → W p l e ({ frames := 2, cells := 0, slots := 0, locals := 45 } : Room) s m args below meth c H locs 0 0 (MQ below (gQ0 Γ ad nz r A) args s 0 0 A) (F0 m 4 ls []) := by
  intro n4
  induction n4 with
  | zero =>
    intro x1 x2 μ3 H locs ls hf h hl
    have hf : (none : gR) = some r := hf
    cases hf
  | succ n4 ih =>
    intro x1 x2 μ3 H locs ls hf h hl
    rw [fX2_canSet_L4] at hf
    refine lv_iload_n X.hx X.hb dX2_canSet_4 rfl (lv_at hl 3 rfl) ?_
    refine lv_aload_n X.hx X.hb dX2_canSet_5 rfl (lv_at hl 0 rfl) ?_
    refine r_getI X h (ci := 2) (k := 11) (C := RX2) (T := TX2) (N := 36) rfl in_X2 (by decide) q1070 rfl dX2_canSet_6 hf (fun x5 hf => ?_)
    refine lv_icmp_ge (tgt := 37) X.hx X.hb dX2_canSet_9 (by decide) (fun hc => ?_) (fun hc => ?_)
    · replace hf := gif_t hf hc
      clear hc
      refine lv_iload_n X.hx X.hb dX2_canSet_37 rfl (lv_at hl 2 rfl) ?_
      exact r_ri X h hr hlk (Nat.le_of_ble_eq_true rfl) (Nat.le_of_ble_eq_true rfl) dX2_canSet_38 hf
    · replace hf := gif_f hf hc
      clear hc
      refine lv_iload_n X.hx X.hb dX2_canSet_12 rfl (lv_at hl 2 rfl) ?_
      refine lv_aload_n X.hx X.hb dX2_canSet_13 rfl (lv_at hl 0 rfl) ?_
      refine lv_iload_n X.hx X.hb dX2_canSet_14 rfl (lv_at hl 1 rfl) ?_
      refine lv_iload_n X.hx X.hb dX2_canSet_15 rfl (lv_at hl 3 rfl) ?_
      refine r_cVI (As := [.int a1, .int x2]) (rest := [.int x1]) (C := RX2) (T := TX2) (N := 36) X h hf (fun res hres => wX2_canPlay l Γ ad _ b0 a1 x2 res hres) rfl (cwV 2 X.hts (lw_V q1293 q1295 qs50 q84 q1296) rfl rfl rfl (by decide +kernel) ⟨Nat.le_of_ble_eq_true rfl, Nat.le_of_ble_eq_true rfl⟩) rfl ⟨hl.1, Nat.le_of_ble_eq_true rfl, Nat.le_of_ble_eq_true rfl, Nat.le_of_ble_eq_true rfl⟩ rfl dX2_canSet_16 (fun x6 μ7 H locs hf h => ?_)
      refine r_jn hf (fun j10 ej10 hf => ?_)
      have hj10 : ∀ (x8 : Int32) (μ9 : gM) (H : Heap) (locs : List Loc) (ls : Array Slot), j10 x8 μ9 = some r → gWd Γ A nz ad μ9 s.heap H locs → lv_has ls 4 [(0, .ref (ad b0)), (1, .int a1), (3, .int x2)] → W p l e ({ frames := 2, cells := 0, slots := 0, locals := 45 } : Room) s m args below meth c H locs 0 0 (MQ below (gQ0 Γ ad nz r A) args s 0 0 A) (F0 m 29 ls [.int x8, .int x1]) := by
        intro x8 μ9 H locs ls hf h hl
        rw [ej10] at hf
        refine lv_ior X.hx X.hb dX2_canSet_29 ?_
        refine r_nmI hf (fun x11 hf => ?_)
        refine lv_istore_n (lv' := [(2, .int x11), (0, .ref (ad b0)), (1, .int a1), (3, .int x2)]) X.hx X.hb dX2_canSet_30 rfl hl (by decide) rfl (fun ls hl => ?_)
        refine r_nmk hf (fun x12 ex hf => ?_)
        refine lv_iinc (v := x12) (lv' := [(3, .int x12), (2, .int x11), (0, .ref (ad b0)), (1, .int a1)]) X.hx X.hb dX2_canSet_31 hl (k := 3) rfl (by rw [ex]; rfl) (by decide) rfl (fun ls hl => ?_)
        clear ex
        refine lv_goto (tgt := 4) X.hx X.hb dX2_canSet_34 (by decide) ?_
        exact ih _ _ _ _ _ _ hf h (lv_sub hl [2, 3, 1, 0] rfl)
      clear ej10
      refine lv_if_eq (tgt := 28) X.hx X.hb dX2_canSet_19 (by decide) (fun hc => ?_) (fun hc => ?_)
      · replace hf := gif_t hf hc
        clear hc
        refine lv_iconst (v := 0) X.hx X.hb dX2_canSet_28 (by decide) ?_
        exact hj10 _ _ _ _ _ hf h (lv_sub hl [0, 1, 3] rfl)
      · replace hf := gif_f hf hc
        clear hc
        refine lv_iconst (v := 1) X.hx X.hb dX2_canSet_22 (by decide) ?_
        refine lv_iload_n X.hx X.hb dX2_canSet_23 rfl (lv_at hl 3 rfl) ?_
        refine lv_ishl X.hx X.hb dX2_canSet_24 ?_
        refine lv_goto (tgt := 29) X.hx X.hb dX2_canSet_25 (by decide) ?_
        exact hj10 _ _ _ _ _ hf h (lv_sub hl [0, 1, 3] rfl)
def fX2_canSet (μ0 : gM) (b0 : Nat) (a1 : Int32) : gR := fX2_canSet_L4 b0 a1 10000 0 0 μ0
set_option maxHeartbeats 4000000 in
theorem wX2_canSet (l : Launch) (Γ : gG) (ad : Nat → Nat) (μ0 : gM) (b0 : Nat) (a1 : Int32) (r : Option Value × gM) (hf : fX2_canSet μ0 b0 a1 = some r) : gMt0 l Γ yX2_canSet (ws_ yX2_canSet cX2_canSet 4 (some .int)) ({ frames := 2, cells := 0, slots := 0, locals := 45 } : Room) 0 0 ad μ0 [.ref (ad b0), .int a1] r := by
  intro sz
  refine g_start (maxL := 4) (ret := (some .int)) (by decide) rfl g_all (Nat.le_of_ble_eq_true rfl) ?_
  intro p e s m below meth c ls hr hlk hnm X h hl
  generalize gA ad μ0 sz = A at X h ⊢
  generalize ([.ref (ad b0), .int a1] : List Value).toArray = args at X ⊢
  have X : gX p m c cX2_canSet 4 s args "SandPianoModel" Γ A := X
  have hl : lv_has ls 4 [(0, .ref (ad b0)), (1, .int a1)] := hl
  show W p l e ({ frames := 2, cells := 0, slots := 0, locals := 45 } : Room) s m args below meth c s.heap [] 0 0 (MQ below (gQ0 Γ ad μ0.1 r A) args s 0 0 A) (F0 m 0 ls [])
  unfold fX2_canSet at hf
  refine lv_iconst (v := 0) X.hx X.hb dX2_canSet_0 (by decide) ?_
  refine lv_istore_n (lv' := [(2, .int 0), (0, .ref (ad b0)), (1, .int a1)]) X.hx X.hb dX2_canSet_1 rfl hl (by decide) rfl (fun ls hl => ?_)
  refine lv_iconst (v := 0) X.hx X.hb dX2_canSet_2 (by decide) ?_
  refine lv_istore_n (lv' := [(3, .int 0), (2, .int 0), (0, .ref (ad b0)), (1, .int a1)]) X.hx X.hb dX2_canSet_3 rfl hl (by decide) rfl (fun ls hl => ?_)
  refine wX2_canSet_L4 l b0 a1 X hr hlk 10000 _ _ _ _ _ _ hf h (lv_sub hl [2, 3, 1, 0] rfl)
/-! X2_has -/
def fX2_has (μ0 : gM) (a1 : Int32) (a2 : Int32) : gR := if ((a1 >>> (a2 &&& 31)) &&& 1) = 1 then (rZ 1 μ0) else (rZ 0 μ0)
set_option maxHeartbeats 4000000 in
theorem wX2_has (l : Launch) (Γ : gG) (ad : Nat → Nat) (μ0 : gM) (a1 : Int32) (a2 : Int32) (r : Option Value × gM) (hf : fX2_has μ0 a1 a2 = some r) : gMt0 l Γ yX2_has (ws_ yX2_has cX2_has 2 (some .boolean)) ({ frames := 0, cells := 0, slots := 0, locals := 0 } : Room) 0 0 ad μ0 [.int a1, .int a2] r := by
  intro sz
  refine g_start (maxL := 2) (ret := (some .boolean)) (by decide) rfl g_all (Nat.le_of_ble_eq_true rfl) ?_
  intro p e s m below meth c ls hr hlk hnm X h hl
  generalize gA ad μ0 sz = A at X h ⊢
  generalize ([.int a1, .int a2] : List Value).toArray = args at X ⊢
  have X : gX p m c cX2_has 2 s args "SandPianoModel" Γ A := X
  have hl : lv_has ls 2 [(0, .int a1), (1, .int a2)] := hl
  show W p l e ({ frames := 0, cells := 0, slots := 0, locals := 0 } : Room) s m args below meth c s.heap [] 0 0 (MQ below (gQ0 Γ ad μ0.1 r A) args s 0 0 A) (F0 m 0 ls [])
  unfold fX2_has at hf
  refine lv_iload_n X.hx X.hb dX2_has_0 rfl (lv_at hl 0 rfl) ?_
  refine lv_iload_n X.hx X.hb dX2_has_1 rfl (lv_at hl 1 rfl) ?_
  refine lv_ishr X.hx X.hb dX2_has_2 ?_
  refine lv_iconst (v := 1) X.hx X.hb dX2_has_3 (by decide) ?_
  refine lv_iand X.hx X.hb dX2_has_4 ?_
  refine lv_iconst (v := 1) X.hx X.hb dX2_has_5 (by decide) ?_
  refine lv_icmp_ne (tgt := 13) X.hx X.hb dX2_has_6 (by decide) (fun hc => ?_) (fun hc => ?_)
  · replace hf := gif_f hf hc
    clear hc
    refine lv_iconst (v := 0) X.hx X.hb dX2_has_13 (by decide) ?_
    exact r_rz X h hr hlk (Nat.le_of_ble_eq_true rfl) (Nat.le_of_ble_eq_true rfl) dX2_has_14 hf
  · replace hf := gif_t hf hc
    clear hc
    refine lv_iconst (v := 1) X.hx X.hb dX2_has_9 (by decide) ?_
    refine lv_goto (tgt := 14) X.hx X.hb dX2_has_10 (by decide) ?_
    exact r_rz X h hr hlk (Nat.le_of_ble_eq_true rfl) (Nat.le_of_ble_eq_true rfl) dX2_has_14 hf
