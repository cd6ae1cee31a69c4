set_option maxRecDepth 100000
/-! X2_greater -/
def fX2_greater (μ0 : gM) (a1 : Int32) (a2 : Int32) : gR := if a1 ≤ a2 then (some (some (.int a2), μ0)) else (some (some (.int a1), μ0))
set_option maxHeartbeats 4000000 in
theorem wX2_greater (l : Launch) (Γ : gG) (ad : Nat → Nat) (μ0 : gM) (a1 : Int32) (a2 : Int32) (r : Option Value × gM) (hf : fX2_greater μ0 a1 a2 = some r) : gMt0 l Γ yX2_greater (ws_ yX2_greater cX2_greater 2 (some .int)) ({ frames := 0, cells := 0, slots := 0, locals := 0 } : Room) 0 0 ad μ0 [.int a1, .int a2] r := by
  intro sz
  refine g_start (maxL := 2) (ret := (some .int)) (by decide) rfl g_all (Nat.le_of_ble_eq_true rfl) ?_
  intro p e s m below meth c ls hr hlk hnm X h hl
  generalize gA ad μ0 sz = A at X h ⊢
  generalize ([.int a1, .int a2] : List Value).toArray = args at X ⊢
  have X : gX p m c cX2_greater 2 s args "SandPianoModel" Γ A := X
  have hl : lv_has ls 2 [(0, .int a1), (1, .int a2)] := hl
  show W p l e ({ frames := 0, cells := 0, slots := 0, locals := 0 } : Room) s m args below meth c s.heap [] 0 0 (MQ below (gQ0 Γ ad μ0.1 r A) args s 0 0 A) (F0 m 0 ls [])
  unfold fX2_greater at hf
  refine lv_iload_n X.hx X.hb dX2_greater_0 rfl (lv_at hl 0 rfl) ?_
  refine lv_iload_n X.hx X.hb dX2_greater_1 rfl (lv_at hl 1 rfl) ?_
  refine lv_icmp_le (tgt := 9) X.hx X.hb dX2_greater_2 (by decide) (fun hc => ?_) (fun hc => ?_)
  · replace hf := gif_t hf hc
    clear hc
    refine lv_iload_n X.hx X.hb dX2_greater_9 rfl (lv_at hl 1 rfl) ?_
    exact r_ri X h hr hlk (Nat.le_of_ble_eq_true rfl) (Nat.le_of_ble_eq_true rfl) dX2_greater_10 hf
  · replace hf := gif_f hf hc
    clear hc
    refine lv_iload_n X.hx X.hb dX2_greater_5 rfl (lv_at hl 0 rfl) ?_
    refine lv_goto (tgt := 10) X.hx X.hb dX2_greater_6 (by decide) ?_
    exact r_ri X h hr hlk (Nat.le_of_ble_eq_true rfl) (Nat.le_of_ble_eq_true rfl) dX2_greater_10 hf
/-! X2_judge -/
def fX2_judge (μ0 : gM) (b0 : Nat) (a1 : Int32) : gR := cI (fX2_isRow μ0 a1) fun x1 μ2 => if x1 = 0 then (some (some (.int (-1)), μ2)) else (gis μ2 b0 2 <| cI (fX2_needPiece μ2 b0 a1) fun x3 μ4 => if 0 ≤ x3 then (gis μ4 b0 2 <| cV (fX2_copyTo μ4 b0 0 1) fun μ5 => gis μ5 b0 2 <| cI (fX2_firstAgainst μ5 b0 1 a1) fun x6 μ7 => gis μ7 b0 2 <| cI (fX2_v μ7 b0 1 6) fun x8 μ9 => gis μ9 b0 2 <| cI (fX2_v μ9 b0 0 6) fun x10 μ11 => gis μ11 b0 2 <| cI (fX2_tells μ11 b0 (x8 - x10) x6) fun x12 μ13 => some (some (.int x12), μ13)) else (some (some (.int x3), μ4)))
set_option maxHeartbeats 4000000 in
theorem wX2_judge (l : Launch) (Γ : gG) (ad : Nat → Nat) (μ0 : gM) (b0 : Nat) (a1 : Int32) (r : Option Value × gM) (hf : fX2_judge μ0 b0 a1 = some r) : gMt0 l Γ yX2_judge (ws_ yX2_judge cX2_judge 4 (some .int)) ({ frames := 4, cells := 0, slots := 0, locals := 93 } : Room) 0 0 ad μ0 [.ref (ad b0), .int a1] r := by
  intro sz
  refine g_start (maxL := 4) (ret := (some .int)) (by decide) rfl g_all (Nat.le_of_ble_eq_true rfl) ?_
  intro p e s m below meth c ls hr hlk hnm X h hl
  generalize gA ad μ0 sz = A at X h ⊢
  generalize ([.ref (ad b0), .int a1] : List Value).toArray = args at X ⊢
  have X : gX p m c cX2_judge 4 s args "SandPianoModel" Γ A := X
  have hl : lv_has ls 4 [(0, .ref (ad b0)), (1, .int a1)] := hl
  show W p l e ({ frames := 4, cells := 0, slots := 0, locals := 93 } : Room) s m args below meth c s.heap [] 0 0 (MQ below (gQ0 Γ ad μ0.1 r A) args s 0 0 A) (F0 m 0 ls [])
  unfold fX2_judge at hf
  refine lv_iload_n X.hx X.hb dX2_judge_0 rfl (lv_at hl 1 rfl) ?_
  refine r_cSI (As := [.int a1]) (rest := []) X h hf (fun res hres => wX2_isRow l Γ ad _ a1 res hres) (va_cwS 1 X.hts (lw_S q1196 q1197 q84 q1198) rfl rfl rfl (by decide +kernel) ⟨Nat.le_of_ble_eq_true rfl, Nat.le_of_ble_eq_true rfl⟩) rfl ⟨hl.1, Nat.le_of_ble_eq_true rfl, Nat.le_of_ble_eq_true rfl, Nat.le_of_ble_eq_true rfl⟩ rfl dX2_judge_1 (fun x1 μ2 H locs hf h => ?_)
  refine lv_if_ne (tgt := 9) X.hx X.hb dX2_judge_4 (by decide) (fun hc => ?_) (fun hc => ?_)
  · replace hf := gif_f hf hc
    clear hc
    refine lv_aload_n X.hx X.hb dX2_judge_9 rfl (lv_at hl 0 rfl) ?_
    refine lv_iload_n X.hx X.hb dX2_judge_10 rfl (lv_at hl 1 rfl) ?_
    refine r_cVI (As := [.int a1]) (rest := []) (C := RX2) (T := TX2) (N := 36) X h hf (fun res hres => wX2_needPiece l Γ ad _ b0 a1 res hres) rfl (cwV 1 X.hts (lw_V q1390 q1392 qs61 q84 q1393) rfl rfl rfl (by decide +kernel) ⟨Nat.le_of_ble_eq_true rfl, Nat.le_of_ble_eq_true rfl⟩) rfl ⟨hl.1, Nat.le_of_ble_eq_true rfl, Nat.le_of_ble_eq_true rfl, Nat.le_of_ble_eq_true rfl⟩ rfl dX2_judge_11 (fun x3 μ4 H locs hf h => ?_)
    refine lv_istore_n (lv' := [(2, .int x3), (0, .ref (ad b0)), (1, .int a1)]) X.hx X.hb dX2_judge_14 rfl hl (by decide) rfl (fun ls hl => ?_)
    refine lv_iload_n X.hx X.hb dX2_judge_15 rfl (lv_at hl 0 rfl) ?_
    refine lv_if_ge (tgt := 21) X.hx X.hb dX2_judge_16 (by decide) (fun hc => ?_) (fun hc => ?_)
    · replace hf := gif_t hf hc
      clear hc
      refine lv_aload_n X.hx X.hb dX2_judge_21 rfl (lv_at hl 1 rfl) ?_
      refine lv_iconst (v := 0) X.hx X.hb dX2_judge_22 (by decide) ?_
      refine lv_iconst (v := 1) X.hx X.hb dX2_judge_23 (by decide) ?_
      refine r_cVV (As := [.int 0, .int 1]) (rest := []) (C := RX2) (T := TX2) (N := 36) X h hf (fun res hres => wX2_copyTo l Γ ad _ b0 0 1 res hres) rfl (cwV 2 X.hts (lw_V q1398 q1400 qs63 q84 q1401) rfl rfl rfl (by decide +kernel) ⟨Nat.le_of_ble_eq_true rfl, Nat.le_of_ble_eq_true rfl⟩) rfl ⟨hl.1, Nat.le_of_ble_eq_true rfl, Nat.le_of_ble_eq_true rfl, Nat.le_of_ble_eq_true rfl⟩ rfl dX2_judge_24 (fun μ5 H locs hf h => ?_)
      refine lv_aload_n X.hx X.hb dX2_judge_27 rfl (lv_at hl 1 rfl) ?_
      refine lv_iconst (v := 1) X.hx X.hb dX2_judge_28 (by decide) ?_
      refine lv_iload_n X.hx X.hb dX2_judge_29 rfl (lv_at hl 2 rfl) ?_
      refine r_cVI (As := [.int 1, .int a1]) (rest := []) (C := RX2) (T := TX2) (N := 36) X h hf (fun res hres => wX2_firstAgainst l Γ ad _ b0 1 a1 res hres) rfl (cwV 2 X.hts (lw_V q1402 q1404 qs64 q84 q1405) rfl rfl rfl (by decide +kernel) ⟨Nat.le_of_ble_eq_true rfl, Nat.le_of_ble_eq_true rfl⟩) rfl ⟨hl.1, Nat.le_of_ble_eq_true rfl, Nat.le_of_ble_eq_true rfl, Nat.le_of_ble_eq_true rfl⟩ rfl dX2_judge_30 (fun x6 μ7 H locs hf h => ?_)
      refine lv_istore_n (lv' := [(3, .int x6), (2, .int x3), (0, .ref (ad b0)), (1, .int a1)]) X.hx X.hb dX2_judge_33 rfl hl (by decide) rfl (fun ls hl => ?_)
      refine lv_aload_n X.hx X.hb dX2_judge_34 rfl (lv_at hl 2 rfl) ?_
      refine lv_aload_n X.hx X.hb dX2_judge_35 rfl (lv_at hl 2 rfl) ?_
      refine lv_iconst (v := 1) X.hx X.hb dX2_judge_36 (by decide) ?_
      refine lv_bipush (v := 6) X.hx X.hb dX2_judge_37 (by decide) ?_
      refine r_cVI (As := [.int 1, .int 6]) (rest := [.ref (ad b0)]) (C := RX2) (T := TX2) (N := 36) X h hf (fun res hres => wX2_v l Γ ad _ b0 1 6 res hres) rfl (cwV 2 X.hts (lw_V q1289 q1291 qs49 q84 q1292) rfl rfl rfl (by decide +kernel) ⟨Nat.le_of_ble_eq_true rfl, Nat.le_of_ble_eq_true rfl⟩) rfl ⟨hl.1, Nat.le_of_ble_eq_true rfl, Nat.le_of_ble_eq_true rfl, Nat.le_of_ble_eq_true rfl⟩ rfl dX2_judge_39 (fun x8 μ9 H locs hf h => ?_)
      refine lv_aload_n X.hx X.hb dX2_judge_42 rfl (lv_at hl 2 rfl) ?_
      refine lv_iconst (v := 0) X.hx X.hb dX2_judge_43 (by decide) ?_
      refine lv_bipush (v := 6) X.hx X.hb dX2_judge_44 (by decide) ?_
      refine r_cVI (As := [.int 0, .int 6]) (rest := [.int x8, .ref (ad b0)]) (C := RX2) (T := TX2) (N := 36) X h hf (fun res hres => wX2_v l Γ ad _ b0 0 6 res hres) rfl (cwV 2 X.hts (lw_V q1289 q1291 qs49 q84 q1292) rfl rfl rfl (by decide +kernel) ⟨Nat.le_of_ble_eq_true rfl, Nat.le_of_ble_eq_true rfl⟩) rfl ⟨hl.1, Nat.le_of_ble_eq_true rfl, Nat.le_of_ble_eq_true rfl, Nat.le_of_ble_eq_true rfl⟩ rfl dX2_judge_46 (fun x10 μ11 H locs hf h => ?_)
      refine lv_isub X.hx X.hb dX2_judge_49 ?_
      refine lv_iload_n X.hx X.hb dX2_judge_50 rfl (lv_at hl 0 rfl) ?_
      refine r_cVI (As := [.int (x8 - x10), .int x6]) (rest := []) (C := RX2) (T := TX2) (N := 36) X h hf (fun res hres => wX2_tells l Γ ad _ b0 (x8 - x10) x6 res hres) rfl (cwV 2 X.hts (lw_V q1211 q1213 qs40 q84 q1214) rfl rfl rfl (by decide +kernel) ⟨Nat.le_of_ble_eq_true rfl, Nat.le_of_ble_eq_true rfl⟩) rfl ⟨hl.1, Nat.le_of_ble_eq_true rfl, Nat.le_of_ble_eq_true rfl, Nat.le_of_ble_eq_true rfl⟩ rfl dX2_judge_51 (fun x12 μ13 H locs hf h => ?_)
      exact r_ri X h hr hlk (Nat.le_of_ble_eq_true rfl) (Nat.le_of_ble_eq_true rfl) dX2_judge_54 hf
    · replace hf := gif_f hf hc
      clear hc
      refine lv_iload_n X.hx X.hb dX2_judge_19 rfl (lv_at hl 0 rfl) ?_
      exact r_ri X h hr hlk (Nat.le_of_ble_eq_true rfl) (Nat.le_of_ble_eq_true rfl) dX2_judge_20 hf
  · replace hf := gif_t hf hc
    clear hc
    refine lv_iconst (v := (-1)) X.hx X.hb dX2_judge_7 (by decide) ?_
    exact r_ri X h hr hlk (Nat.le_of_ble_eq_true rfl) (Nat.le_of_ble_eq_true rfl) dX2_judge_8 hf
/-! X2_keep -/
def fX2_keep_L50 (b0 : Nat) (a1 : Int32) (kx79 : gM → gR) : Nat → Int32 → gM → gR
  | 0, _, _ => none
  | n14 + 1, x12, μ13 => if 9 ≤ x12 then (kx79 μ13) else (gP (gfld μ13 b0 2 26) fun i15 => gis μ13 b0 2 <| cI (fX2_v μ13 b0 0 x12) fun x16 μ17 => gsI μ17 0 i15 ((9 * a1) + x12) x16 fun μ18 => gnm (x12 + 1) fun x19 => fX2_keep_L50 b0 a1 kx79 n14 x19 μ18)
set_option maxHeartbeats 4000000 in
theorem wX2_keep_L50 {p : Program} {e : Env} {s : State} {m : MethodId} {args : Array Value} {below : List Frame} {meth : Method} {c : Code} {Γ : gG} {A : Nat → Prop} {nz : Nat} {ad : Nat → Nat} {r : Option Value × gM} (l : Launch) (b0 : Nat) (a1 : Int32) (kx79 : gM → gR) (X : gX p m c cX2_keep 3 s args "SandPianoModel" Γ A) (hr : meth.sig.returnType = (some .int)) (hlk : meth.locks = false) (hk79 : ∀  (μ : gM) (H : Heap) (locs : List Loc) (ls : Array Slot), kx79  μ = some r → gWd Γ A nz ad μ s.heap H locs → lv_has ls 3 [(0, .ref (ad b0)), (1, .int a1)] → W p l e ({ frames := 1, cells := 0, slots := 0, locals := 22 } : Room) s m args below meth c H locs 0 0 (MQ below (gQ0 Γ ad nz r A) args s 0 0 A) (F0 m 79 ls [])) : ∀ (n14 : Nat) (x12 : Int32) (μ13 : gM) (H : Heap) (locs : List Loc) (ls : Array Slot), fX2_keep_L50 b0 a1 kx79 n14 x12 μ13 = some r → gWd Γ A nz ad μ13 s.heap H locs → lv_has ls 3 [(0, .ref (ad b0)), (1, .int a1), (2, .int x12)] → W p l e ({ frames := 1, cells := 0, slots := 0, locals := 22 } : Room) s m args below meth c H locs 0 0 (MQ below (gQ0 Γ ad nz r A) args s 0 0 A) (F0 m 50 ls []) := by
  intro n14
  induction n14 with
  | zero =>
    intro x12 μ13 H locs ls hf h hl
    have hf : (none : gR) = some r := hf
    cases hf
  | succ n14 ih =>
    intro x12 μ13 H locs ls hf h hl
    rw [fX2_keep_L50] at hf
    refine lv_iload_n X.hx X.hb dX2_keep_50 rfl (lv_at hl 2 rfl) ?_
    refine lv_bipush (v := 9) X.hx X.hb dX2_keep_51 (by decide) ?_
    refine lv_icmp_ge (tgt := 79) X.hx X.hb dX2_keep_53 (by decide) (fun hc => ?_) (fun hc => ?_)
    · replace hf := gif_t hf hc
      clear hc
      exact hk79 _ _ _ _ hf h (lv_sub hl [0, 1] rfl)
    · replace hf := gif_f hf hc
      clear hc
      refine lv_aload_n X.hx X.hb dX2_keep_56 rfl (lv_at hl 0 rfl) ?_
      refine r_getP X h (ci := 2) (k := 26) (C := RX2) (T := TX2) (N := 36) rfl in_X2 (by decide) q1085 rfl dX2_keep_57 hf (fun i15 hf => ?_)
      refine lv_bipush (v := 9) X.hx X.hb dX2_keep_60 (by decide) ?_
      refine lv_iload_n X.hx X.hb dX2_keep_62 rfl (lv_at hl 1 rfl) ?_
      refine lv_imul X.hx X.hb dX2_keep_63 ?_
      refine lv_iload_n X.hx X.hb dX2_keep_64 rfl (lv_at hl 2 rfl) ?_
      refine lv_iadd X.hx X.hb dX2_keep_65 ?_
      refine lv_aload_n X.hx X.hb dX2_keep_66 rfl (lv_at hl 0 rfl) ?_
      refine lv_iconst (v := 0) X.hx X.hb dX2_keep_67 (by decide) ?_
      refine lv_iload_n X.hx X.hb dX2_keep_68 rfl (lv_at hl 2 rfl) ?_
      refine r_cVI (As := [.int 0, .int x12]) (rest := [.int ((9 * a1) + x12), .ref (ad i15)]) (C := RX2) (T := TX2) (N := 36) X h hf (fun res hres => wX2_v l Γ ad _ b0 0 x12 res hres) rfl (cwV 2 X.hts (lw_V q1289 q1291 qs49 q84 q1292) rfl rfl rfl (by decide +kernel) ⟨Nat.le_of_ble_eq_true rfl, Nat.le_of_ble_eq_true rfl⟩) rfl ⟨hl.1, Nat.le_of_ble_eq_true rfl, Nat.le_of_ble_eq_true rfl, Nat.le_of_ble_eq_true rfl⟩ rfl dX2_keep_69 (fun x16 μ17 H locs hf h => ?_)
      refine r_iast X h dX2_keep_72 hf (fun μ18 H locs hf h => ?_)
      refine r_nmk hf (fun x19 ex hf => ?_)
      refine lv_iinc (v := x19) (lv' := [(2, .int x19), (0, .ref (ad b0)), (1, .int a1)]) X.hx X.hb dX2_keep_73 hl (k := 2) rfl (by rw [ex]; rfl) (by decide) rfl (fun ls hl => ?_)
      clear ex
      refine lv_goto (tgt := 50) X.hx X.hb dX2_keep_76 (by decide) ?_
      exact ih _ _ _ _ _ hf h (lv_sub hl [1, 2, 0] rfl)
def fX2_keep_L81 (b0 : Nat) (a1 : Int32) (kx116 : gM → gR) : Nat → Int32 → gM → gR
  | 0, _, _ => none
  | n23 + 1, x21, μ22 => gI (gfld μ22 b0 2 21) fun x24 => if (9 * x24) ≤ x21 then (kx116 μ22) else (gP (gfld μ22 b0 2 27) fun i25 => gP (gfld μ22 b0 2 22) fun i26 => gaI μ22 0 i26 x21 fun x27 => gsI μ22 0 i25 ((540 * a1) + x21) x27 fun μ28 => gnm (x21 + 1) fun x29 => fX2_keep_L81 b0 a1 kx116 n23 x29 μ28)
set_option maxHeartbeats 4000000 in
theorem wX2_keep_L81 {p : Program} {e : Env} {s : State} {m : MethodId} {args : Array Value} {below : List Frame} {meth : Method} {c : Code} {Γ : gG} {A : Nat → Prop} {nz : Nat} {ad : Nat → Nat} {r : Option Value × gM} (l : Launch) (b0 : Nat) (a1 : Int32) (kx116 : gM → gR) (X : gX p m c cX2_keep 3 s args "SandPianoModel" Γ A) (hr : meth.sig.returnType = (some .int)) (hlk : meth.locks = false) (hk116 : ∀  (μ : gM) (H : Heap) (locs : List Loc) (ls : Array Slot), kx116  μ = some r → gWd Γ A nz ad μ s.heap H locs → lv_has ls 3 [(0, .ref (ad b0))] → W p l e ({ frames := 1, cells := 0, slots := 0, locals := 22 } : Room) s m args below meth c H locs 0 0 (MQ below (gQ0 Γ ad nz r A) args s 0 0 A) (F0 m 116 ls [])) : ∀ (n23 : Nat) (x21 : Int32) (μ22 : gM) (H : Heap) (locs : List Loc) (ls : Array Slot), fX2_keep_L81 b0 a1 kx116 n23 x21 μ22 = some r → gWd Γ A nz ad μ22 s.heap H locs → lv_has ls 3 [(0, .ref (ad b0)), (1, .int a1), (2, .int x21)] → W p l e ({ frames := 1, cells := 0, slots := 0, locals := 22 } : Room) s m args below meth c H locs 0 0 (MQ below (gQ0 Γ ad nz r A) args s 0 0 A) (F0 m 81 ls []) := by
  intro n23
  induction n23 with
  | zero =>
    intro x21 μ22 H locs ls hf h hl
    have hf : (none : gR) = some r := hf
    cases hf
  | succ n23 ih =>
    intro x21 μ22 H locs ls hf h hl
    rw [fX2_keep_L81] at hf
    refine lv_iload_n X.hx X.hb dX2_keep_81 rfl (lv_at hl 2 rfl) ?_
    refine lv_bipush (v := 9) X.hx X.hb dX2_keep_82 (by decide) ?_
    refine lv_aload_n X.hx X.hb dX2_keep_84 rfl (lv_at hl 0 rfl) ?_
    refine r_getI X h (ci := 2) (k := 21) (C := RX2) (T := TX2) (N := 36) rfl in_X2 (by decide) q1080 rfl dX2_keep_85 hf (fun x24 hf => ?_)
    refine lv_imul X.hx X.hb dX2_keep_88 ?_
    refine lv_icmp_ge (tgt := 116) X.hx X.hb dX2_keep_89 (by decide) (fun hc => ?_) (fun hc => ?_)
    · replace hf := gif_t hf hc
      clear hc
      exact hk116 _ _ _ _ hf h (lv_sub hl [0] rfl)
    · replace hf := gif_f hf hc
      clear hc
      refine lv_aload_n X.hx X.hb dX2_keep_92 rfl (lv_at hl 0 rfl) ?_
      refine r_getP X h (ci := 2) (k := 27) (C := RX2) (T := TX2) (N := 36) rfl in_X2 (by decide) q1086 rfl dX2_keep_93 hf (fun i25 hf => ?_)
      refine lv_sipush (v := 540) X.hx X.hb dX2_keep_96 (by decide) ?_
      refine lv_iload_n X.hx X.hb dX2_keep_99 rfl (lv_at hl 1 rfl) ?_
      refine lv_imul X.hx X.hb dX2_keep_100 ?_
      refine lv_iload_n X.hx X.hb dX2_keep_101 rfl (lv_at hl 2 rfl) ?_
      refine lv_iadd X.hx X.hb dX2_keep_102 ?_
      refine lv_aload_n X.hx X.hb dX2_keep_103 rfl (lv_at hl 0 rfl) ?_
      refine r_getP X h (ci := 2) (k := 22) (C := RX2) (T := TX2) (N := 36) rfl in_X2 (by decide) q1081 rfl dX2_keep_104 hf (fun i26 hf => ?_)
      refine lv_iload_n X.hx X.hb dX2_keep_107 rfl (lv_at hl 2 rfl) ?_
      refine r_iald X h dX2_keep_108 hf (fun x27 hf => ?_)
      refine r_iast X h dX2_keep_109 hf (fun μ28 H locs hf h => ?_)
      refine r_nmk hf (fun x29 ex hf => ?_)
      refine lv_iinc (v := x29) (lv' := [(2, .int x29), (0, .ref (ad b0)), (1, .int a1)]) X.hx X.hb dX2_keep_110 hl (k := 2) rfl (by rw [ex]; rfl) (by decide) rfl (fun ls hl => ?_)
      clear ex
      refine lv_goto (tgt := 81) X.hx X.hb dX2_keep_113 (by decide) ?_
      exact ih _ _ _ _ _ hf h (lv_sub hl [1, 2, 0] rfl)
def fX2_keep (μ0 : gM) (b0 : Nat) (a1 : Int32) : gR := cI (fX2_in μ0 a1 0 2) fun x1 μ2 => if x1 = 0 then (some (some (.int (-1)), μ2)) else (gI (gfld μ2 b0 2 11) fun x3 => if x3 = 0 then (some (some (.int (-4)), μ2)) else (gP (gfld μ2 b0 2 23) fun i4 => gsI μ2 2 i4 a1 (vp_nar .boolean 1) fun μ5 => gP (gfld μ5 b0 2 24) fun i6 => gI (gfld μ5 b0 2 21) fun x7 => gsI μ5 0 i6 a1 x7 fun μ8 => gP (gfld μ8 b0 2 25) fun i9 => gI (gfld μ8 b0 2 10) fun x10 => gsI μ8 0 i9 a1 x10 fun μ11 => fX2_keep_L50 b0 a1 (fun (μ20 : gM) => fX2_keep_L81 b0 a1 (fun (μ30 : gM) => gI (gfld μ30 b0 2 21) fun x31 => some (some (.int x31), μ30)) 10000 0 μ20) 10000 0 μ11))
set_option maxHeartbeats 4000000 in
theorem wX2_keep (l : Launch) (Γ : gG) (ad : Nat → Nat) (μ0 : gM) (b0 : Nat) (a1 : Int32) (r : Option Value × gM) (hf : fX2_keep μ0 b0 a1 = some r) : gMt0 l Γ yX2_keep (ws_ yX2_keep cX2_keep 3 (some .int)) ({ frames := 1, cells := 0, slots := 0, locals := 22 } : Room) 0 0 ad μ0 [.ref (ad b0), .int a1] r := by
  intro sz
  refine g_start (maxL := 3) (ret := (some .int)) (by decide) rfl g_all (Nat.le_of_ble_eq_true rfl) ?_
  intro p e s m below meth c ls hr hlk hnm X h hl
  generalize gA ad μ0 sz = A at X h ⊢
  generalize ([.ref (ad b0), .int a1] : List Value).toArray = args at X ⊢
  have X : gX p m c cX2_keep 3 s args "SandPianoModel" Γ A := X
  have hl : lv_has ls 3 [(0, .ref (ad b0)), (1, .int a1)] := hl
  show W p l e ({ frames := 1, cells := 0, slots := 0, locals := 22 } : Room) s m args below meth c s.heap [] 0 0 (MQ below (gQ0 Γ ad μ0.1 r A) args s 0 0 A) (F0 m 0 ls [])
  unfold fX2_keep at hf
  refine lv_iload_n X.hx X.hb dX2_keep_0 rfl (lv_at hl 1 rfl) ?_
  refine lv_iconst (v := 0) X.hx X.hb dX2_keep_1 (by decide) ?_
  refine lv_iconst (v := 2) X.hx X.hb dX2_keep_2 (by decide) ?_
  refine r_cSI (As := [.int a1, .int 0, .int 2]) (rest := []) X h hf (fun res hres => wX2_in l Γ ad _ a1 0 2 res hres) (va_cwS 3 X.hts (lw_S q1177 q1178 q84 q1179) rfl rfl rfl (by decide +kernel) ⟨Nat.le_of_ble_eq_true rfl, Nat.le_of_ble_eq_true rfl⟩) rfl ⟨hl.1, Nat.le_of_ble_eq_true rfl, Nat.le_of_ble_eq_true rfl, Nat.le_of_ble_eq_true rfl⟩ rfl dX2_keep_3 (fun x1 μ2 H locs hf h => ?_)
  refine lv_if_ne (tgt := 11) X.hx X.hb dX2_keep_6 (by decide) (fun hc => ?_) (fun hc => ?_)
  · replace hf := gif_f hf hc
    clear hc
    refine lv_aload_n X.hx X.hb dX2_keep_11 rfl (lv_at hl 0 rfl) ?_
    refine r_getI X h (ci := 2) (k := 11) (C := RX2) (T := TX2) (N := 36) rfl in_X2 (by decide) q1070 rfl dX2_keep_12 hf (fun x3 hf => ?_)
    refine lv_if_ne (tgt := 21) X.hx X.hb dX2_keep_15 (by decide) (fun hc => ?_) (fun hc => ?_)
    · replace hf := gif_f hf hc
      clear hc
      refine lv_aload_n X.hx X.hb dX2_keep_21 rfl (lv_at hl 0 rfl) ?_
      refine r_getP X h (ci := 2) (k := 23) (C := RX2) (T := TX2) (N := 36) rfl in_X2 (by decide) q1082 rfl dX2_keep_22 hf (fun i4 hf => ?_)
      refine lv_iload_n X.hx X.hb dX2_keep_25 rfl (lv_at hl 1 rfl) ?_
      refine lv_iconst (v := 1) X.hx X.hb dX2_keep_26 (by decide) ?_
      refine r_zast X h dX2_keep_27 hf (fun μ5 H locs hf h => ?_)
      refine lv_aload_n X.hx X.hb dX2_keep_28 rfl (lv_at hl 0 rfl) ?_
      refine r_getP X h (ci := 2) (k := 24) (C := RX2) (T := TX2) (N := 36) rfl in_X2 (by decide) q1083 rfl dX2_keep_29 hf (fun i6 hf => ?_)
      refine lv_iload_n X.hx X.hb dX2_keep_32 rfl (lv_at hl 1 rfl) ?_
      refine lv_aload_n X.hx X.hb dX2_keep_33 rfl (lv_at hl 0 rfl) ?_
      refine r_getI X h (ci := 2) (k := 21) (C := RX2) (T := TX2) (N := 36) rfl in_X2 (by decide) q1080 rfl dX2_keep_34 hf (fun x7 hf => ?_)
      refine r_iast X h dX2_keep_37 hf (fun μ8 H locs hf h => ?_)
      refine lv_aload_n X.hx X.hb dX2_keep_38 rfl (lv_at hl 0 rfl) ?_
      refine r_getP X h (ci := 2) (k := 25) (C := RX2) (T := TX2) (N := 36) rfl in_X2 (by decide) q1084 rfl dX2_keep_39 hf (fun i9 hf => ?_)
      refine lv_iload_n X.hx X.hb dX2_keep_42 rfl (lv_at hl 1 rfl) ?_
      refine lv_aload_n X.hx X.hb dX2_keep_43 rfl (lv_at hl 0 rfl) ?_
      refine r_getI X h (ci := 2) (k := 10) (C := RX2) (T := TX2) (N := 36) rfl in_X2 (by decide) q1069 rfl dX2_keep_44 hf (fun x10 hf => ?_)
      refine r_iast X h dX2_keep_47 hf (fun μ11 H locs hf h => ?_)
      refine lv_iconst (v := 0) X.hx X.hb dX2_keep_48 (by decide) ?_
      refine lv_istore_n (lv' := [(2, .int 0), (0, .ref (ad b0)), (1, .int a1)]) X.hx X.hb dX2_keep_49 rfl hl (by decide) rfl (fun ls hl => ?_)
      refine wX2_keep_L50 l b0 a1 _ X hr hlk (fun μ20 H locs ls hf h hl => ?_) 10000 _ _ _ _ _ hf h (lv_sub hl [1, 2, 0] rfl)
      refine lv_iconst (v := 0) X.hx X.hb dX2_keep_79 (by decide) ?_
      refine lv_istore_n (lv' := [(2, .int 0), (0, .ref (ad b0)), (1, .int a1)]) X.hx X.hb dX2_keep_80 rfl hl (by decide) rfl (fun ls hl => ?_)
      refine wX2_keep_L81 l b0 a1 _ X hr hlk (fun μ30 H locs ls hf h hl => ?_) 10000 _ _ _ _ _ hf h (lv_sub hl [1, 2, 0] rfl)
      refine lv_aload_n X.hx X.hb dX2_keep_116 rfl (lv_at hl 0 rfl) ?_
      refine r_getI X h (ci := 2) (k := 21) (C := RX2) (T := TX2) (N := 36) rfl in_X2 (by decide) q1080 rfl dX2_keep_117 hf (fun x31 hf => ?_)
      exact r_ri X h hr hlk (Nat.le_of_ble_eq_true rfl) (Nat.le_of_ble_eq_true rfl) dX2_keep_120 hf
    · replace hf := gif_t hf hc
      clear hc
      refine lv_bipush (v := (-4)) X.hx X.hb dX2_keep_18 (by decide) ?_
      exact r_ri X h hr hlk (Nat.le_of_ble_eq_true rfl) (Nat.le_of_ble_eq_true rfl) dX2_keep_20 hf
  · replace hf := gif_t hf hc
    clear hc
    refine lv_iconst (v := (-1)) X.hx X.hb dX2_keep_9 (by decide) ?_
    exact r_ri X h hr hlk (Nat.le_of_ble_eq_true rfl) (Nat.le_of_ble_eq_true rfl) dX2_keep_10 hf
/-! X2_key -/
def fX2_key (μ0 : gM) (b0 : Nat) (a1 : Int32) (a2 : Int32) : gR := gis μ0 b0 2 <| cI (fX2_isKey μ0 b0 a1) fun x1 μ2 => if x1 = 0 then (some (some (.int (-1)), μ2)) else (cI (fX2_in μ2 a2 0 4) fun x3 μ4 => if x3 = 0 then (some (some (.int (-1)), μ4)) else (gis μ4 b0 2 <| cI (fX2_keyTells μ4 b0 a1 a2) fun x5 μ6 => gis μ6 b0 2 <| cI (fX2_tells μ6 b0 x5 1) fun x7 μ8 => some (some (.int x7), μ8)))
set_option maxHeartbeats 4000000 in
theorem wX2_key (l : Launch) (Γ : gG) (ad : Nat → Nat) (μ0 : gM) (b0 : Nat) (a1 : Int32) (a2 : Int32) (r : Option Value × gM) (hf : fX2_key μ0 b0 a1 a2 = some r) : gMt0 l Γ yX2_key (ws_ yX2_key cX2_key 3 (some .int)) ({ frames := 3, cells := 0, slots := 0, locals := 67 } : Room) 0 0 ad μ0 [.ref (ad b0), .int a1, .int a2] r := by
  intro sz
  refine g_start (maxL := 3) (ret := (some .int)) (by decide) rfl g_all (Nat.le_of_ble_eq_true rfl) ?_
  intro p e s m below meth c ls hr hlk hnm X h hl
  generalize gA ad μ0 sz = A at X h ⊢
  generalize ([.ref (ad b0), .int a1, .int a2] : List Value).toArray = args at X ⊢
  have X : gX p m c cX2_key 3 s args "SandPianoModel" Γ A := X
  have hl : lv_has ls 3 [(0, .ref (ad b0)), (1, .int a1), (2, .int a2)] := hl
  show W p l e ({ frames := 3, cells := 0, slots := 0, locals := 67 } : Room) s m args below meth c s.heap [] 0 0 (MQ below (gQ0 Γ ad μ0.1 r A) args s 0 0 A) (F0 m 0 ls [])
  unfold fX2_key at hf
  refine lv_aload_n X.hx X.hb dX2_key_0 rfl (lv_at hl 0 rfl) ?_
  refine lv_iload_n X.hx X.hb dX2_key_1 rfl (lv_at hl 1 rfl) ?_
  refine r_cVI (As := [.int a1]) (rest := []) (C := RX2) (T := TX2) (N := 36) X h hf (fun res hres => wX2_isKey l Γ ad _ b0 a1 res hres) rfl (cwV 1 X.hts (lw_V q1281 q1283 qs47 q84 q1284) rfl rfl rfl (by decide +kernel) ⟨Nat.le_of_ble_eq_true rfl, Nat.le_of_ble_eq_true rfl⟩) rfl ⟨hl.1, Nat.le_of_ble_eq_true rfl, Nat.le_of_ble_eq_true rfl, Nat.le_of_ble_eq_true rfl⟩ rfl dX2_key_2 (fun x1 μ2 H locs hf h => ?_)
  refine lv_if_eq (tgt := 31) X.hx X.hb dX2_key_5 (by decide) (fun hc => ?_) (fun hc => ?_)
  · replace hf := gif_t hf hc
    clear hc
    refine lv_iconst (v := (-1)) X.hx X.hb dX2_key_31 (by decide) ?_
    exact r_ri X h hr hlk (Nat.le_of_ble_eq_true rfl) (Nat.le_of_ble_eq_true rfl) dX2_key_32 hf
  · replace hf := gif_f hf hc
    clear hc
    refine lv_iload_n X.hx X.hb dX2_key_8 rfl (lv_at hl 2 rfl) ?_
    refine lv_iconst (v := 0) X.hx X.hb dX2_key_9 (by decide) ?_
    refine lv_iconst (v := 4) X.hx X.hb dX2_key_10 (by decide) ?_
    refine r_cSI (As := [.int a2, .int 0, .int 4]) (rest := []) X h hf (fun res hres => wX2_in l Γ ad _ a2 0 4 res hres) (va_cwS 3 X.hts (lw_S q1177 q1178 q84 q1179) rfl rfl rfl (by decide +kernel) ⟨Nat.le_of_ble_eq_true rfl, Nat.le_of_ble_eq_true rfl⟩) rfl ⟨hl.1, Nat.le_of_ble_eq_true rfl, Nat.le_of_ble_eq_true rfl, Nat.le_of_ble_eq_true rfl⟩ rfl dX2_key_11 (fun x3 μ4 H locs hf h => ?_)
    refine lv_if_eq (tgt := 31) X.hx X.hb dX2_key_14 (by decide) (fun hc => ?_) (fun hc => ?_)
    · replace hf := gif_t hf hc
      clear hc
      refine lv_iconst (v := (-1)) X.hx X.hb dX2_key_31 (by decide) ?_
      exact r_ri X h hr hlk (Nat.le_of_ble_eq_true rfl) (Nat.le_of_ble_eq_true rfl) dX2_key_32 hf
    · replace hf := gif_f hf hc
      clear hc
      refine lv_aload_n X.hx X.hb dX2_key_17 rfl (lv_at hl 0 rfl) ?_
      refine lv_aload_n X.hx X.hb dX2_key_18 rfl (lv_at hl 0 rfl) ?_
      refine lv_iload_n X.hx X.hb dX2_key_19 rfl (lv_at hl 1 rfl) ?_
      refine lv_iload_n X.hx X.hb dX2_key_20 rfl (lv_at hl 2 rfl) ?_
      refine r_cVI (As := [.int a1, .int a2]) (rest := [.ref (ad b0)]) (C := RX2) (T := TX2) (N := 36) X h hf (fun res hres => wX2_keyTells l Γ ad _ b0 a1 a2 res hres) rfl (cwV 2 X.hts (lw_V q1285 q1287 qs48 q84 q1288) rfl rfl rfl (by decide +kernel) ⟨Nat.le_of_ble_eq_true rfl, Nat.le_of_ble_eq_true rfl⟩) rfl ⟨hl.1, Nat.le_of_ble_eq_true rfl, Nat.le_of_ble_eq_true rfl, Nat.le_of_ble_eq_true rfl⟩ rfl dX2_key_21 (fun x5 μ6 H locs hf h => ?_)
      refine lv_iconst (v := 1) X.hx X.hb dX2_key_24 (by decide) ?_
      refine r_cVI (As := [.int x5, .int 1]) (rest := []) (C := RX2) (T := TX2) (N := 36) X h hf (fun res hres => wX2_tells l Γ ad _ b0 x5 1 res hres) rfl (cwV 2 X.hts (lw_V q1211 q1213 qs40 q84 q1214) rfl rfl rfl (by decide +kernel) ⟨Nat.le_of_ble_eq_true rfl, Nat.le_of_ble_eq_true rfl⟩) rfl ⟨hl.1, Nat.le_of_ble_eq_true rfl, Nat.le_of_ble_eq_true rfl, Nat.le_of_ble_eq_true rfl⟩ rfl dX2_key_25 (fun x7 μ8 H locs hf h => ?_)
      refine lv_goto (tgt := 32) X.hx X.hb dX2_key_28 (by decide) ?_
      exact r_ri X h hr hlk (Nat.le_of_ble_eq_true rfl) (Nat.le_of_ble_eq_true rfl) dX2_key_32 hf
/-! X2_tides -/
def fX2_tides_L5 (b0 : Nat) (a1 : Int32) (a2 : Int32) (kx44 : Int32 → gM → gR) : Nat → Int32 → Int32 → gM → gR
  | 0, _, _, _ => none
  | n4 + 1, x1, x2, μ3 => gI (gfld μ3 b0 2 11) fun x5 => if x5 ≤ x2 then (kx44 x1 μ3) else (if a2 ≤ x2 then (kx44 x1 μ3) else (gis μ3 b0 2 <| cV (fX2_add μ3 b0 a1 x2 (a2 - x2)) fun μ6 => gnm ((x1 + (a2 - x2))) fun x7 => gnm (x2 + 1) fun x8 => fX2_tides_L5 b0 a1 a2 kx44 n4 x7 x8 μ6))
set_option maxHeartbeats 4000000 in
theorem wX2_tides_L5 {p : Program} {e : Env} {s : State} {m : MethodId} {args : Array Value} {below : List Frame} {meth : Method} {c : Code} {Γ : gG} {A : Nat → Prop} {nz : Nat} {ad : Nat → Nat} {r : Option Value × gM} (l : Launch) (b0 : Nat) (a1 : Int32) (a2 : Int32) (kx44 : Int32 → gM → gR) (X : gX p m c cX2_tides 5 s args "SandPianoModel" Γ A) (hr : meth.sig.returnType = (some .int)) (hlk : meth.locks = false) (hk44 : ∀ (x9 : Int32) (μ : gM) (H : Heap) (locs : List Loc) (ls : Array Slot), kx44 x9 μ = some r → gWd Γ A nz ad μ s.heap H locs → lv_has ls 5 [(0, .ref (ad b0)), (1, .int a1), (3, .int x9)] → W p l e ({ frames := 1, cells := 0, slots := 0, locals := 23 } : Room) s m args below meth c H locs 0 0 (MQ below (gQ0 Γ ad nz r A) args s 0 0 A) (F0 m 44 ls [])) : ∀ (n4 : Nat) (x1 : Int32) (x2 : Int32) (μ3 : gM) (H : Heap) (locs : List Loc) (ls : Array Slot), fX2_tides_L5 b0 a1 a2 kx44 n4 x1 x2 μ3 = some r → gWd Γ A nz ad μ3 s.heap H locs → lv_has ls 5 [(0, .ref (ad b0)), (1, .int a1), (2, .int a2), (3, .int x1), (4, .int x2)] → W p l e ({ frames := 1, cells := 0, slots := 0, locals := 23 } : Room) s m args below meth c H locs 0 0 (MQ below (gQ0 Γ ad nz r A) args s 0 0 A) (F0 m 5 ls []) := by
  intro n4
  induction n4 with
  | zero =>
    intro x1 x2 μ3 H locs ls hf h hl
    have hf : (none : gR) = some r := hf
    cases hf
  | succ n4 ih =>
    intro x1 x2 μ3 H locs ls hf h hl
    rw [fX2_tides_L5] at hf
    refine lv_iload X.hx X.hb dX2_tides_5 (lv_at hl 4 rfl) ?_
    refine lv_aload_n X.hx X.hb dX2_tides_7 rfl (lv_at hl 0 rfl) ?_
    refine r_getI X h (ci := 2) (k := 11) (C := RX2) (T := TX2) (N := 36) rfl in_X2 (by decide) q1070 rfl dX2_tides_8 hf (fun x5 hf => ?_)
    refine lv_icmp_ge (tgt := 44) X.hx X.hb dX2_tides_11 (by decide) (fun hc => ?_) (fun hc => ?_)
    · replace hf := gif_t hf hc
      clear hc
      exact hk44 _ _ _ _ _ hf h (lv_sub hl [0, 1, 3] rfl)
    · replace hf := gif_f hf hc
      clear hc
      refine lv_iload X.hx X.hb dX2_tides_14 (lv_at hl 4 rfl) ?_
      refine lv_iload_n X.hx X.hb dX2_tides_16 rfl (lv_at hl 2 rfl) ?_
      refine lv_icmp_ge (tgt := 44) X.hx X.hb dX2_tides_17 (by decide) (fun hc => ?_) (fun hc => ?_)
      · replace hf := gif_t hf hc
        clear hc
        exact hk44 _ _ _ _ _ hf h (lv_sub hl [0, 1, 3] rfl)
      · replace hf := gif_f hf hc
        clear hc
        refine lv_aload_n X.hx X.hb dX2_tides_20 rfl (lv_at hl 0 rfl) ?_
        refine lv_iload_n X.hx X.hb dX2_tides_21 rfl (lv_at hl 1 rfl) ?_
        refine lv_iload X.hx X.hb dX2_tides_22 (lv_at hl 4 rfl) ?_
        refine lv_iload_n X.hx X.hb dX2_tides_24 rfl (lv_at hl 2 rfl) ?_
        refine lv_iload X.hx X.hb dX2_tides_25 (lv_at hl 4 rfl) ?_
        refine lv_isub X.hx X.hb dX2_tides_27 ?_
        refine r_cVV (As := [.int a1, .int x2, .int (a2 - x2)]) (rest := []) (C := RX2) (T := TX2) (N := 36) X h hf (fun res hres => wX2_add l Γ ad _ b0 a1 x2 (a2 - x2) res hres) rfl (cwV 3 X.hts (lw_V q1342 q1344 qs57 q84 q1345) rfl rfl rfl (by decide +kernel) ⟨Nat.le_of_ble_eq_true rfl, Nat.le_of_ble_eq_true rfl⟩) rfl ⟨hl.1, Nat.le_of_ble_eq_true rfl, Nat.le_of_ble_eq_true rfl, Nat.le_of_ble_eq_true rfl⟩ rfl dX2_tides_28 (fun μ6 H locs hf h => ?_)
        refine lv_iload_n X.hx X.hb dX2_tides_31 rfl (lv_at hl 3 rfl) ?_
        refine lv_iload_n X.hx X.hb dX2_tides_32 rfl (lv_at hl 2 rfl) ?_
        refine lv_iload X.hx X.hb dX2_tides_33 (lv_at hl 4 rfl) ?_
        refine lv_isub X.hx X.hb dX2_tides_35 ?_
        refine lv_iadd X.hx X.hb dX2_tides_36 ?_
        refine r_nmI hf (fun x7 hf => ?_)
        refine lv_istore_n (lv' := [(3, .int x7), (0, .ref (ad b0)), (1, .int a1), (2, .int a2), (4, .int x2)]) X.hx X.hb dX2_tides_37 rfl hl (by decide) rfl (fun ls hl => ?_)
        refine r_nmk hf (fun x8 ex hf => ?_)
        refine lv_iinc (v := x8) (lv' := [(4, .int x8), (3, .int x7), (0, .ref (ad b0)), (1, .int a1), (2, .int a2)]) X.hx X.hb dX2_tides_38 hl (k := 4) rfl (by rw [ex]; rfl) (by decide) rfl (fun ls hl => ?_)
        clear ex
        refine lv_goto (tgt := 5) X.hx X.hb dX2_tides_41 (by decide) ?_
        exact ih _ _ _ _ _ _ hf h (lv_sub hl [2, 3, 4, 1, 0] rfl)
def fX2_tides (μ0 : gM) (b0 : Nat) (a1 : Int32) (a2 : Int32) : gR := fX2_tides_L5 b0 a1 a2 (fun (x10 : Int32) (μ11 : gM) => gis μ11 b0 2 <| cV (fX2_add μ11 b0 a1 7 x10) fun μ12 => some (some (.int x10), μ12)) 10000 0 0 μ0
set_option maxHeartbeats 4000000 in
theorem wX2_tides (l : Launch) (Γ : gG) (ad : Nat → Nat) (μ0 : gM) (b0 : Nat) (a1 : Int32) (a2 : Int32) (r : Option Value × gM) (hf : fX2_tides μ0 b0 a1 a2 = some r) : gMt0 l Γ yX2_tides (ws_ yX2_tides cX2_tides 5 (some .int)) ({ frames := 1, cells := 0, slots := 0, locals := 23 } : Room) 0 0 ad μ0 [.ref (ad b0), .int a1, .int a2] r := by
  intro sz
  refine g_start (maxL := 5) (ret := (some .int)) (by decide) rfl g_all (Nat.le_of_ble_eq_true rfl) ?_
  intro p e s m below meth c ls hr hlk hnm X h hl
  generalize gA ad μ0 sz = A at X h ⊢
  generalize ([.ref (ad b0), .int a1, .int a2] : List Value).toArray = args at X ⊢
  have X : gX p m c cX2_tides 5 s args "SandPianoModel" Γ A := X
  have hl : lv_has ls 5 [(0, .ref (ad b0)), (1, .int a1), (2, .int a2)] := hl
  show W p l e ({ frames := 1, cells := 0, slots := 0, locals := 23 } : Room) s m args below meth c s.heap [] 0 0 (MQ below (gQ0 Γ ad μ0.1 r A) args s 0 0 A) (F0 m 0 ls [])
  unfold fX2_tides at hf
  refine lv_iconst (v := 0) X.hx X.hb dX2_tides_0 (by decide) ?_
  refine lv_istore_n (lv' := [(3, .int 0), (0, .ref (ad b0)), (1, .int a1), (2, .int a2)]) X.hx X.hb dX2_tides_1 rfl hl (by decide) rfl (fun ls hl => ?_)
  refine lv_iconst (v := 0) X.hx X.hb dX2_tides_2 (by decide) ?_
  refine lv_istore (lv' := [(4, .int 0), (3, .int 0), (0, .ref (ad b0)), (1, .int a1), (2, .int a2)]) X.hx X.hb dX2_tides_3 hl (by decide) rfl (fun ls hl => ?_)
  refine wX2_tides_L5 l b0 a1 a2 _ X hr hlk (fun x10 μ11 H locs ls hf h hl => ?_) 10000 _ _ _ _ _ _ hf h (lv_sub hl [2, 3, 4, 1, 0] rfl)
  refine lv_aload_n X.hx X.hb dX2_tides_44 rfl (lv_at hl 0 rfl) ?_
  refine lv_iload_n X.hx X.hb dX2_tides_45 rfl (lv_at hl 1 rfl) ?_
  refine lv_bipush (v := 7) X.hx X.hb dX2_tides_46 (by decide) ?_
  refine lv_iload_n X.hx X.hb dX2_tides_48 rfl (lv_at hl 2 rfl) ?_
  refine r_cVV (As := [.int a1, .int 7, .int x10]) (rest := []) (C := RX2) (T := TX2) (N := 36) X h hf (fun res hres => wX2_add l Γ ad _ b0 a1 7 x10 res hres) rfl (cwV 3 X.hts (lw_V q1342 q1344 qs57 q84 q1345) rfl rfl rfl (by decide +kernel) ⟨Nat.le_of_ble_eq_true rfl, Nat.le_of_ble_eq_true rfl⟩) rfl ⟨hl.1, Nat.le_of_ble_eq_true rfl, Nat.le_of_ble_eq_true rfl, Nat.le_of_ble_eq_true rfl⟩ rfl dX2_tides_49 (fun μ12 H locs hf h => ?_)
  refine lv_iload_n X.hx X.hb dX2_tides_52 rfl (lv_at hl 2 rfl) ?_
  exact r_ri X h hr hlk (Nat.le_of_ble_eq_true rfl) (Nat.le_of_ble_eq_true rfl) dX2_tides_53 hf
/-! X2_lasts -/
def fX2_lasts_L40 (b0 : Nat) (a1 : Int32) (a2 : Int32) : Nat → Int32 → gM → gR
  | 0, _, _ => none
  | n10 + 1, x8, μ9 => if 20 ≤ x8 then (some (some (.int 20), μ9)) else (gis μ9 b0 2 <| cI (fX2_tides μ9 b0 1 a2) fun x11 μ12 => gis μ12 b0 2 <| cV (fX2_copyTo μ12 b0 1 2) fun μ13 => gis μ13 b0 2 <| cI (fX2_firstAgainst μ13 b0 2 a1) fun x14 μ15 => gP (gfld μ15 b0 2 5) fun i16 => gaI μ15 0 i16 a1 fun x17 => if x17 ≤ x14 then (gnm (x8 + 1) fun x18 => fX2_lasts_L40 b0 a1 a2 n10 x18 μ15) else (some (some (.int x8), μ15)))
set_option maxHeartbeats 4000000 in
theorem wX2_lasts_L40 {p : Program} {e : Env} {s : State} {m : MethodId} {args : Array Value} {below : List Frame} {meth : Method} {c : Code} {Γ : gG} {A : Nat → Prop} {nz : Nat} {ad : Nat → Nat} {r : Option Value × gM} (l : Launch) (b0 : Nat) (a1 : Int32) (a2 : Int32) (X : gX p m c cX2_lasts 5 s args "SandPianoModel" Γ A) (hr : meth.sig.returnType = (some .int)) (hlk : meth.locks = false) : ∀ (n10 : Nat) (x8 : Int32) (μ9 : gM) (H : Heap) (locs : List Loc) (ls : Array Slot), fX2_lasts_L40 b0 a1 a2 n10 x8 μ9 = some r → gWd Γ A nz ad μ9 s.heap H locs → lv_has ls 5 [(0, .ref (ad b0)), (1, .int a1), (2, .int a2), (4, .int x8)] → W p l e ({ frames := 4, cells := 0, slots := 0, locals := 93 } : Room) s m args below meth c H locs 0 0 (MQ below (gQ0 Γ ad nz r A) args s 0 0 A) (F0 m 40 ls []) := by
  intro n10
  induction n10 with
  | zero =>
    intro x8 μ9 H locs ls hf h hl
    have hf : (none : gR) = some r := hf
    cases hf
  | succ n10 ih =>
    intro x8 μ9 H locs ls hf h hl
    rw [fX2_lasts_L40] at hf
    refine lv_iload X.hx X.hb dX2_lasts_40 (lv_at hl 3 rfl) ?_
    refine lv_bipush (v := 20) X.hx X.hb dX2_lasts_42 (by decide) ?_
    refine lv_icmp_ge (tgt := 84) X.hx X.hb dX2_lasts_44 (by decide) (fun hc => ?_) (fun hc => ?_)
    · replace hf := gif_t hf hc
      clear hc
      refine lv_bipush (v := 20) X.hx X.hb dX2_lasts_84 (by decide) ?_
      exact r_ri X h hr hlk (Nat.le_of_ble_eq_true rfl) (Nat.le_of_ble_eq_true rfl) dX2_lasts_86 hf
    · replace hf := gif_f hf hc
      clear hc
      refine lv_aload_n X.hx X.hb dX2_lasts_47 rfl (lv_at hl 0 rfl) ?_
      refine lv_iconst (v := 1) X.hx X.hb dX2_lasts_48 (by decide) ?_
      refine lv_iload_n X.hx X.hb dX2_lasts_49 rfl (lv_at hl 2 rfl) ?_
      refine r_cVI (As := [.int 1, .int a2]) (rest := []) (C := RX2) (T := TX2) (N := 36) X h hf (fun res hres => wX2_tides l Γ ad _ b0 1 a2 res hres) rfl (cwV 2 X.hts (lw_V q1354 q1356 qs59 q84 q1357) rfl rfl rfl (by decide +kernel) ⟨Nat.le_of_ble_eq_true rfl, Nat.le_of_ble_eq_true rfl⟩) rfl ⟨hl.1, Nat.le_of_ble_eq_true rfl, Nat.le_of_ble_eq_true rfl, Nat.le_of_ble_eq_true rfl⟩ rfl dX2_lasts_50 (fun x11 μ12 H locs hf h => ?_)
      refine lv_pop X.hx X.hb dX2_lasts_53 rfl ?_
      refine lv_aload_n X.hx X.hb dX2_lasts_54 rfl (lv_at hl 0 rfl) ?_
      refine lv_iconst (v := 1) X.hx X.hb dX2_lasts_55 (by decide) ?_
      refine lv_iconst (v := 2) X.hx X.hb dX2_lasts_56 (by decide) ?_
      refine r_cVV (As := [.int 1, .int 2]) (rest := []) (C := RX2) (T := TX2) (N := 36) X h hf (fun res hres => wX2_copyTo l Γ ad _ b0 1 2 res hres) rfl (cwV 2 X.hts (lw_V q1398 q1400 qs63 q84 q1401) rfl rfl rfl (by decide +kernel) ⟨Nat.le_of_ble_eq_true rfl, Nat.le_of_ble_eq_true rfl⟩) rfl ⟨hl.1, Nat.le_of_ble_eq_true rfl, Nat.le_of_ble_eq_true rfl, Nat.le_of_ble_eq_true rfl⟩ rfl dX2_lasts_57 (fun μ13 H locs hf h => ?_)
      refine lv_aload_n X.hx X.hb dX2_lasts_60 rfl (lv_at hl 0 rfl) ?_
      refine lv_iconst (v := 2) X.hx X.hb dX2_lasts_61 (by decide) ?_
      refine lv_iload_n X.hx X.hb dX2_lasts_62 rfl (lv_at hl 1 rfl) ?_
      refine r_cVI (As := [.int 2, .int a1]) (rest := []) (C := RX2) (T := TX2) (N := 36) X h hf (fun res hres => wX2_firstAgainst l Γ ad _ b0 2 a1 res hres) rfl (cwV 2 X.hts (lw_V q1402 q1404 qs64 q84 q1405) rfl rfl rfl (by decide +kernel) ⟨Nat.le_of_ble_eq_true rfl, Nat.le_of_ble_eq_true rfl⟩) rfl ⟨hl.1, Nat.le_of_ble_eq_true rfl, Nat.le_of_ble_eq_true rfl, Nat.le_of_ble_eq_true rfl⟩ rfl dX2_lasts_63 (fun x14 μ15 H locs hf h => ?_)
      refine lv_aload_n X.hx X.hb dX2_lasts_66 rfl (lv_at hl 0 rfl) ?_
      refine r_getP X h (ci := 2) (k := 5) (C := RX2) (T := TX2) (N := 36) rfl in_X2 (by decide) q1064 rfl dX2_lasts_67 hf (fun i16 hf => ?_)
      refine lv_iload_n X.hx X.hb dX2_lasts_70 rfl (lv_at hl 1 rfl) ?_
      refine r_iald X h dX2_lasts_71 hf (fun x17 hf => ?_)
      refine lv_icmp_ge (tgt := 78) X.hx X.hb dX2_lasts_72 (by decide) (fun hc => ?_) (fun hc => ?_)
      · replace hf := gif_t hf hc
        clear hc
        refine r_nmk hf (fun x18 ex hf => ?_)
        refine lv_iinc (v := x18) (lv' := [(4, .int x18), (0, .ref (ad b0)), (1, .int a1), (2, .int a2)]) X.hx X.hb dX2_lasts_78 hl (k := 3) rfl (by rw [ex]; rfl) (by decide) rfl (fun ls hl => ?_)
        clear ex
        refine lv_goto (tgt := 40) X.hx X.hb dX2_lasts_81 (by decide) ?_
        exact ih _ _ _ _ _ hf h (lv_sub hl [1, 2, 3, 0] rfl)
      · replace hf := gif_f hf hc
        clear hc
        refine lv_iload X.hx X.hb dX2_lasts_75 (lv_at hl 3 rfl) ?_
        exact r_ri X h hr hlk (Nat.le_of_ble_eq_true rfl) (Nat.le_of_ble_eq_true rfl) dX2_lasts_77 hf
def fX2_lasts (μ0 : gM) (b0 : Nat) (a1 : Int32) (a2 : Int32) : gR := cI (fX2_isRow μ0 a1) fun x1 μ2 => if x1 = 0 then (some (some (.int (-1)), μ2)) else (cI (fX2_in μ2 a2 0 9) fun x3 μ4 => if x3 = 0 then (some (some (.int (-1)), μ4)) else (gis μ4 b0 2 <| cI (fX2_needPiece μ4 b0 a1) fun x5 μ6 => if 0 ≤ x5 then (gis μ6 b0 2 <| cV (fX2_copyTo μ6 b0 0 1) fun μ7 => fX2_lasts_L40 b0 a1 a2 10000 0 μ7) else (some (some (.int x5), μ6))))
set_option maxHeartbeats 4000000 in
theorem wX2_lasts (l : Launch) (Γ : gG) (ad : Nat → Nat) (μ0 : gM) (b0 : Nat) (a1 : Int32) (a2 : Int32) (r : Option Value × gM) (hf : fX2_lasts μ0 b0 a1 a2 = some r) : gMt0 l Γ yX2_lasts (ws_ yX2_lasts cX2_lasts 5 (some .int)) ({ frames := 4, cells := 0, slots := 0, locals := 93 } : Room) 0 0 ad μ0 [.ref (ad b0), .int a1, .int a2] r := by
  intro sz
  refine g_start (maxL := 5) (ret := (some .int)) (by decide) rfl g_all (Nat.le_of_ble_eq_true rfl) ?_
  intro p e s m below meth c ls hr hlk hnm X h hl
  generalize gA ad μ0 sz = A at X h ⊢
  generalize ([.ref (ad b0), .int a1, .int a2] : List Value).toArray = args at X ⊢
  have X : gX p m c cX2_lasts 5 s args "SandPianoModel" Γ A := X
  have hl : lv_has ls 5 [(0, .ref (ad b0)), (1, .int a1), (2, .int a2)] := hl
  show W p l e ({ frames := 4, cells := 0, slots := 0, locals := 93 } : Room) s m args below meth c s.heap [] 0 0 (MQ below (gQ0 Γ ad μ0.1 r A) args s 0 0 A) (F0 m 0 ls [])
  unfold fX2_lasts at hf
  refine lv_iload_n X.hx X.hb dX2_lasts_0 rfl (lv_at hl 1 rfl) ?_
  refine r_cSI (As := [.int a1]) (rest := []) X h hf (fun res hres => wX2_isRow l Γ ad _ a1 res hres) (va_cwS 1 X.hts (lw_S q1196 q1197 q84 q1198) rfl rfl rfl (by decide +kernel) ⟨Nat.le_of_ble_eq_true rfl, Nat.le_of_ble_eq_true rfl⟩) rfl ⟨hl.1, Nat.le_of_ble_eq_true rfl, Nat.le_of_ble_eq_true rfl, Nat.le_of_ble_eq_true rfl⟩ rfl dX2_lasts_1 (fun x1 μ2 H locs hf h => ?_)
  refine lv_if_eq (tgt := 17) X.hx X.hb dX2_lasts_4 (by decide) (fun hc => ?_) (fun hc => ?_)
  · replace hf := gif_t hf hc
    clear hc
    refine lv_iconst (v := (-1)) X.hx X.hb dX2_lasts_17 (by decide) ?_
    exact r_ri X h hr hlk (Nat.le_of_ble_eq_true rfl) (Nat.le_of_ble_eq_true rfl) dX2_lasts_18 hf
  · replace hf := gif_f hf hc
    clear hc
    refine lv_iload_n X.hx X.hb dX2_lasts_7 rfl (lv_at hl 2 rfl) ?_
    refine lv_iconst (v := 0) X.hx X.hb dX2_lasts_8 (by decide) ?_
    refine lv_bipush (v := 9) X.hx X.hb dX2_lasts_9 (by decide) ?_
    refine r_cSI (As := [.int a2, .int 0, .int 9]) (rest := []) X h hf (fun res hres => wX2_in l Γ ad _ a2 0 9 res hres) (va_cwS 3 X.hts (lw_S q1177 q1178 q84 q1179) rfl rfl rfl (by decide +kernel) ⟨Nat.le_of_ble_eq_true rfl, Nat.le_of_ble_eq_true rfl⟩) rfl ⟨hl.1, Nat.le_of_ble_eq_true rfl, Nat.le_of_ble_eq_true rfl, Nat.le_of_ble_eq_true rfl⟩ rfl dX2_lasts_11 (fun x3 μ4 H locs hf h => ?_)
    refine lv_if_ne (tgt := 19) X.hx X.hb dX2_lasts_14 (by decide) (fun hc => ?_) (fun hc => ?_)
    · replace hf := gif_f hf hc
      clear hc
      refine lv_aload_n X.hx X.hb dX2_lasts_19 rfl (lv_at hl 0 rfl) ?_
      refine lv_iload_n X.hx X.hb dX2_lasts_20 rfl (lv_at hl 1 rfl) ?_
      refine r_cVI (As := [.int a1]) (rest := []) (C := RX2) (T := TX2) (N := 36) X h hf (fun res hres => wX2_needPiece l Γ ad _ b0 a1 res hres) rfl (cwV 1 X.hts (lw_V q1390 q1392 qs61 q84 q1393) rfl rfl rfl (by decide +kernel) ⟨Nat.le_of_ble_eq_true rfl, Nat.le_of_ble_eq_true rfl⟩) rfl ⟨hl.1, Nat.le_of_ble_eq_true rfl, Nat.le_of_ble_eq_true rfl, Nat.le_of_ble_eq_true rfl⟩ rfl dX2_lasts_21 (fun x5 μ6 H locs hf h => ?_)
      refine lv_istore_n (lv' := [(3, .int x5), (0, .ref (ad b0)), (1, .int a1), (2, .int a2)]) X.hx X.hb dX2_lasts_24 rfl hl (by decide) rfl (fun ls hl => ?_)
      refine lv_iload_n X.hx X.hb dX2_lasts_25 rfl (lv_at hl 0 rfl) ?_
      refine lv_if_ge (tgt := 31) X.hx X.hb dX2_lasts_26 (by decide) (fun hc => ?_) (fun hc => ?_)
      · replace hf := gif_t hf hc
        clear hc
        refine lv_aload_n X.hx X.hb dX2_lasts_31 rfl (lv_at hl 1 rfl) ?_
        refine lv_iconst (v := 0) X.hx X.hb dX2_lasts_32 (by decide) ?_
        refine lv_iconst (v := 1) X.hx X.hb dX2_lasts_33 (by decide) ?_
        refine r_cVV (As := [.int 0, .int 1]) (rest := []) (C := RX2) (T := TX2) (N := 36) X h hf (fun res hres => wX2_copyTo l Γ ad _ b0 0 1 res hres) rfl (cwV 2 X.hts (lw_V q1398 q1400 qs63 q84 q1401) rfl rfl rfl (by decide +kernel) ⟨Nat.le_of_ble_eq_true rfl, Nat.le_of_ble_eq_true rfl⟩) rfl ⟨hl.1, Nat.le_of_ble_eq_true rfl, Nat.le_of_ble_eq_true rfl, Nat.le_of_ble_eq_true rfl⟩ rfl dX2_lasts_34 (fun μ7 H locs hf h => ?_)
        refine lv_iconst (v := 0) X.hx X.hb dX2_lasts_37 (by decide) ?_
        refine lv_istore (lv' := [(4, .int 0), (3, .int x5), (0, .ref (ad b0)), (1, .int a1), (2, .int a2)]) X.hx X.hb dX2_lasts_38 hl (by decide) rfl (fun ls hl => ?_)
        refine wX2_lasts_L40 l b0 a1 a2 X hr hlk 10000 _ _ _ _ _ hf h (lv_sub hl [2, 3, 4, 0] rfl)
      · replace hf := gif_f hf hc
        clear hc
        refine lv_iload_n X.hx X.hb dX2_lasts_29 rfl (lv_at hl 0 rfl) ?_
        exact r_ri X h hr hlk (Nat.le_of_ble_eq_true rfl) (Nat.le_of_ble_eq_true rfl) dX2_lasts_30 hf
    · replace hf := gif_t hf hc
      clear hc
      refine lv_iconst (v := (-1)) X.hx X.hb dX2_lasts_17 (by decide) ?_
      exact r_ri X h hr hlk (Nat.le_of_ble_eq_true rfl) (Nat.le_of_ble_eq_true rfl) dX2_lasts_18 hf
/-! X2_lay -/
def fX2_lay (μ0 : gM) (b0 : Nat) (a1 : Int32) (a2 : Int32) (a3 : Int32) : gR := cI (fX2_isRow μ0 a1) fun x1 μ2 => if x1 = 0 then (some (some (.int (-1)), μ2)) else (gP (gfld μ2 b0 2 5) fun i3 => gaI μ2 0 i3 a1 fun x4 => if 0 ≤ x4 then (gP (gfld μ2 b0 2 5) fun i5 => gaI μ2 0 i5 a1 fun x6 => cI (fX2_in μ2 a2 0 (x6 - 1)) fun x7 μ8 => if x7 = 0 then (gis μ8 b0 2 <| cI (fX2_meets μ8 b0 2) fun x15 μ16 => some (some (.int x15), μ16)) else (gis μ8 b0 2 <| cI (fX2_rowAt μ8 b0 a1 a2) fun x9 μ10 => gP (gfld μ10 b0 2 6) fun i11 => gsI μ10 0 i11 ((40 * a1) + a2) a3 fun μ12 => gis μ12 b0 2 <| cI (fX2_tells μ12 b0 x9 1) fun x13 μ14 => some (some (.int x13), μ14))) else (gis μ2 b0 2 <| cI (fX2_meets μ2 b0 1) fun x17 μ18 => some (some (.int x17), μ18)))
set_option maxHeartbeats 4000000 in
theorem wX2_lay (l : Launch) (Γ : gG) (ad : Nat → Nat) (μ0 : gM) (b0 : Nat) (a1 : Int32) (a2 : Int32) (a3 : Int32) (r : Option Value × gM) (hf : fX2_lay μ0 b0 a1 a2 a3 = some r) : gMt0 l Γ yX2_lay (ws_ yX2_lay cX2_lay 5 (some .int)) ({ frames := 2, cells := 0, slots := 0, locals := 42 } : Room) 0 0 ad μ0 [.ref (ad b0), .int a1, .int a2, .int a3] r := by
  intro sz
  refine g_start (maxL := 5) (ret := (some .int)) (by decide) rfl g_all (Nat.le_of_ble_eq_true rfl) ?_
  intro p e s m below meth c ls hr hlk hnm X h hl
  generalize gA ad μ0 sz = A at X h ⊢
  generalize ([.ref (ad b0), .int a1, .int a2, .int a3] : List Value).toArray = args at X ⊢
  have X : gX p m c cX2_lay 5 s args "SandPianoModel" Γ A := X
  have hl : lv_has ls 5 [(0, .ref (ad b0)), (1, .int a1), (2, .int a2), (3, .int a3)] := hl
  show W p l e ({ frames := 2, cells := 0, slots := 0, locals := 42 } : Room) s m args below meth c s.heap [] 0 0 (MQ below (gQ0 Γ ad μ0.1 r A) args s 0 0 A) (F0 m 0 ls [])
  unfold fX2_lay at hf
  refine lv_iload_n X.hx X.hb dX2_lay_0 rfl (lv_at hl 1 rfl) ?_
  refine r_cSI (As := [.int a1]) (rest := []) X h hf (fun res hres => wX2_isRow l Γ ad _ a1 res hres) (va_cwS 1 X.hts (lw_S q1196 q1197 q84 q1198) rfl rfl rfl (by decide +kernel) ⟨Nat.le_of_ble_eq_true rfl, Nat.le_of_ble_eq_true rfl⟩) rfl ⟨hl.1, Nat.le_of_ble_eq_true rfl, Nat.le_of_ble_eq_true rfl, Nat.le_of_ble_eq_true rfl⟩ rfl dX2_lay_1 (fun x1 μ2 H locs hf h => ?_)
  refine lv_if_ne (tgt := 9) X.hx X.hb dX2_lay_4 (by decide) (fun hc => ?_) (fun hc => ?_)
  · replace hf := gif_f hf hc
    clear hc
    refine lv_aload_n X.hx X.hb dX2_lay_9 rfl (lv_at hl 0 rfl) ?_
    refine r_getP X h (ci := 2) (k := 5) (C := RX2) (T := TX2) (N := 36) rfl in_X2 (by decide) q1064 rfl dX2_lay_10 hf (fun i3 hf => ?_)
    refine lv_iload_n X.hx X.hb dX2_lay_13 rfl (lv_at hl 1 rfl) ?_
    refine r_iald X h dX2_lay_14 hf (fun x4 hf => ?_)
    refine lv_if_ge (tgt := 24) X.hx X.hb dX2_lay_15 (by decide) (fun hc => ?_) (fun hc => ?_)
    · replace hf := gif_t hf hc
      clear hc
      refine lv_iload_n X.hx X.hb dX2_lay_24 rfl (lv_at hl 2 rfl) ?_
      refine lv_iconst (v := 0) X.hx X.hb dX2_lay_25 (by decide) ?_
      refine lv_aload_n X.hx X.hb dX2_lay_26 rfl (lv_at hl 0 rfl) ?_
      refine r_getP X h (ci := 2) (k := 5) (C := RX2) (T := TX2) (N := 36) rfl in_X2 (by decide) q1064 rfl dX2_lay_27 hf (fun i5 hf => ?_)
      refine lv_iload_n X.hx X.hb dX2_lay_30 rfl (lv_at hl 1 rfl) ?_
      refine r_iald X h dX2_lay_31 hf (fun x6 hf => ?_)
      refine lv_iconst (v := 1) X.hx X.hb dX2_lay_32 (by decide) ?_
      refine lv_isub X.hx X.hb dX2_lay_33 ?_
      refine r_cSI (As := [.int a2, .int 0, .int (x6 - 1)]) (rest := []) X h hf (fun res hres => wX2_in l Γ ad _ a2 0 (x6 - 1) res hres) (va_cwS 3 X.hts (lw_S q1177 q1178 q84 q1179) rfl rfl rfl (by decide +kernel) ⟨Nat.le_of_ble_eq_true rfl, Nat.le_of_ble_eq_true rfl⟩) rfl ⟨hl.1, Nat.le_of_ble_eq_true rfl, Nat.le_of_ble_eq_true rfl, Nat.le_of_ble_eq_true rfl⟩ rfl dX2_lay_34 (fun x7 μ8 H locs hf h => ?_)
      refine lv_if_ne (tgt := 46) X.hx X.hb dX2_lay_37 (by decide) (fun hc => ?_) (fun hc => ?_)
      · replace hf := gif_f hf hc
        clear hc
        refine lv_aload_n X.hx X.hb dX2_lay_46 rfl (lv_at hl 0 rfl) ?_
        refine lv_iload_n X.hx X.hb dX2_lay_47 rfl (lv_at hl 1 rfl) ?_
        refine lv_iload_n X.hx X.hb dX2_lay_48 rfl (lv_at hl 2 rfl) ?_
        refine r_cVI (As := [.int a1, .int a2]) (rest := []) (C := RX2) (T := TX2) (N := 36) X h hf (fun res hres => wX2_rowAt l Γ ad _ b0 a1 a2 res hres) rfl (cwV 2 X.hts (lw_V q1207 q1209 qs39 q84 q1210) rfl rfl rfl (by decide +kernel) ⟨Nat.le_of_ble_eq_true rfl, Nat.le_of_ble_eq_true rfl⟩) rfl ⟨hl.1, Nat.le_of_ble_eq_true rfl, Nat.le_of_ble_eq_true rfl, Nat.le_of_ble_eq_true rfl⟩ rfl dX2_lay_49 (fun x9 μ10 H locs hf h => ?_)
        refine lv_istore (lv' := [(4, .int x9), (0, .ref (ad b0)), (1, .int a1), (2, .int a2), (3, .int a3)]) X.hx X.hb dX2_lay_52 hl (by decide) rfl (fun ls hl => ?_)
        refine lv_aload_n X.hx X.hb dX2_lay_54 rfl (lv_at hl 1 rfl) ?_
        refine r_getP X h (ci := 2) (k := 6) (C := RX2) (T := TX2) (N := 36) rfl in_X2 (by decide) q1065 rfl dX2_lay_55 hf (fun i11 hf => ?_)
        refine lv_bipush (v := 40) X.hx X.hb dX2_lay_58 (by decide) ?_
        refine lv_iload_n X.hx X.hb dX2_lay_60 rfl (lv_at hl 2 rfl) ?_
        refine lv_imul X.hx X.hb dX2_lay_61 ?_
        refine lv_iload_n X.hx X.hb dX2_lay_62 rfl (lv_at hl 3 rfl) ?_
        refine lv_iadd X.hx X.hb dX2_lay_63 ?_
        refine lv_iload_n X.hx X.hb dX2_lay_64 rfl (lv_at hl 4 rfl) ?_
        refine r_iast X h dX2_lay_65 hf (fun μ12 H locs hf h => ?_)
        refine lv_aload_n X.hx X.hb dX2_lay_66 rfl (lv_at hl 1 rfl) ?_
        refine lv_iload X.hx X.hb dX2_lay_67 (lv_at hl 0 rfl) ?_
        refine lv_iconst (v := 1) X.hx X.hb dX2_lay_69 (by decide) ?_
        refine r_cVI (As := [.int x9, .int 1]) (rest := []) (C := RX2) (T := TX2) (N := 36) X h hf (fun res hres => wX2_tells l Γ ad _ b0 x9 1 res hres) rfl (cwV 2 X.hts (lw_V q1211 q1213 qs40 q84 q1214) rfl rfl rfl (by decide +kernel) ⟨Nat.le_of_ble_eq_true rfl, Nat.le_of_ble_eq_true rfl⟩) rfl ⟨hl.1, Nat.le_of_ble_eq_true rfl, Nat.le_of_ble_eq_true rfl, Nat.le_of_ble_eq_true rfl⟩ rfl dX2_lay_70 (fun x13 μ14 H locs hf h => ?_)
        exact r_ri X h hr hlk (Nat.le_of_ble_eq_true rfl) (Nat.le_of_ble_eq_true rfl) dX2_lay_73 hf
      · replace hf := gif_t hf hc
        clear hc
        refine lv_aload_n X.hx X.hb dX2_lay_40 rfl (lv_at hl 0 rfl) ?_
        refine lv_iconst (v := 2) X.hx X.hb dX2_lay_41 (by decide) ?_
        refine r_cVI (As := [.int 2]) (rest := []) (C := RX2) (T := TX2) (N := 36) X h hf (fun res hres => wX2_meets l Γ ad _ b0 2 res hres) rfl (cwV 1 X.hts (lw_V q1199 q1201 qs38 q84 q1202) rfl rfl rfl (by decide +kernel) ⟨Nat.le_of_ble_eq_true rfl, Nat.le_of_ble_eq_true rfl⟩) rfl ⟨hl.1, Nat.le_of_ble_eq_true rfl, Nat.le_of_ble_eq_true rfl, Nat.le_of_ble_eq_true rfl⟩ rfl dX2_lay_42 (fun x15 μ16 H locs hf h => ?_)
        exact r_ri X h hr hlk (Nat.le_of_ble_eq_true rfl) (Nat.le_of_ble_eq_true rfl) dX2_lay_45 hf
    · replace hf := gif_f hf hc
      clear hc
      refine lv_aload_n X.hx X.hb dX2_lay_18 rfl (lv_at hl 0 rfl) ?_
      refine lv_iconst (v := 1) X.hx X.hb dX2_lay_19 (by decide) ?_
      refine r_cVI (As := [.int 1]) (rest := []) (C := RX2) (T := TX2) (N := 36) X h hf (fun res hres => wX2_meets l Γ ad _ b0 1 res hres) rfl (cwV 1 X.hts (lw_V q1199 q1201 qs38 q84 q1202) rfl rfl rfl (by decide +kernel) ⟨Nat.le_of_ble_eq_true rfl, Nat.le_of_ble_eq_true rfl⟩) rfl ⟨hl.1, Nat.le_of_ble_eq_true rfl, Nat.le_of_ble_eq_true rfl, Nat.le_of_ble_eq_true rfl⟩ rfl dX2_lay_20 (fun x17 μ18 H locs hf h => ?_)
      exact r_ri X h hr hlk (Nat.le_of_ble_eq_true rfl) (Nat.le_of_ble_eq_true rfl) dX2_lay_23 hf
  · replace hf := gif_t hf hc
    clear hc
    refine lv_iconst (v := (-1)) X.hx X.hb dX2_lay_7 (by decide) ?_
    exact r_ri X h hr hlk (Nat.le_of_ble_eq_true rfl) (Nat.le_of_ble_eq_true rfl) dX2_lay_8 hf
/-! X2_layMost -/
def fX2_layMost_L20 (rec : gM → Nat → Int32 → Int32 → gR) (b0 : Nat) (a1 : Int32) (a2 : Int32) : Nat → Int32 → gM → gR
  | 0, _, _ => none
  | n6 + 1, x4, μ5 => gI (gfld μ5 b0 2 11) fun x7 => if x7 ≤ x4 then (some (none, μ5)) else (cI (fX2_has μ5 a2 x4) fun x8 μ9 => gjn (fun  (μ10 : gM) => gnm (x4 + 1) fun x12 => fX2_layMost_L20 rec b0 a1 a2 n6 x12 μ10) fun j11 => if x8 = 0 then (gis μ9 b0 2 <| cI (fX2_canPlay μ9 b0 a1 x4) fun x13 μ14 => if x13 = 0 then (j11 μ14) else (gis μ14 b0 2 <| cV (fX2_copyTo μ14 b0 a1 (a1 + 1)) fun μ15 => gis μ15 b0 2 <| cV (fX2_plays μ15 b0 (a1 + 1) x4) fun μ16 => gP (gfld μ16 b0 2 28) fun i17 => gsI μ16 0 i17 a1 x4 fun μ18 => gis μ18 b0 2 <| cV (rec μ18 b0 (a1 + 1) (a2 ||| (1 <<< (x4 &&& 31)))) fun μ19 => j11 μ19)) else (j11 μ9))
set_option maxHeartbeats 4000000 in
theorem wX2_layMost_L20 {p : Program} {e : Env} {s : State} {m : MethodId} {args : Array Value} {below : List Frame} {meth : Method} {c : Code} {Γ : gG} {A : Nat → Prop} {nz : Nat} {ad : Nat → Nat} {r : Option Value × gM} (l : Launch) (dd : Nat) (rec : gM → Nat → Int32 → Int32 → gR) (b0 : Nat) (a1 : Int32) (a2 : Int32) (X : gX p m c cX2_layMost 4 s args "SandPianoModel" Γ A) (hr : meth.sig.returnType = none) (hlk : meth.locks = false) (hrec : ∀ (ad : Nat → Nat) (μ : gM) (b0 : Nat) (a1 : Int32) (a2 : Int32) (r : Option Value × gM), rec μ b0 a1 a2 = some r → gMt0 l Γ yX2_layMost (ws_ yX2_layMost cX2_layMost 4 none) ({ frames := 3 + dd, cells := 0, slots := 0, locals := 70 + dd * 23 } : Room) 0 0 ad μ [.ref (ad b0), .int a1, .int a2] r) : ∀ (n6 : Nat) (x4 : Int32) (μ5 : gM) (H : Heap) (locs : List Loc) (ls : Array Slot), fX2_layMost_L20 rec b0 a1 a2 n6 x4 μ5 = some r → gWd Γ A nz ad μ5 s.heap H locs → lv_has ls 4 [(0, .ref (ad b0)), (1, .int a1), (2, .int a2), (3, .int x4)] → W p l e ({ frames := 3 + (dd + 1), cells := 0, slots := 0, locals := 70 + (dd + 1) * 23 } : Room) s m args below meth c H locs 0 0 (MQ below (gQ0 Γ ad nz r A) args s 0 0 A) (F0 m 20 ls []) := by
  intro n6
  induction n6 with
  | zero =>
    intro x4 μ5 H locs ls hf h hl
    have hf : (none : gR) = some r := hf
    cases hf
  | succ n6 ih =>
    intro x4 μ5 H locs ls hf h hl
    rw [fX2_layMost_L20] at hf
    refine lv_iload_n X.hx X.hb dX2_layMost_20 rfl (lv_at hl 3 rfl) ?_
    refine lv_aload_n X.hx X.hb dX2_layMost_21 rfl (lv_at hl 0 rfl) ?_
    refine r_getI X h (ci := 2) (k := 11) (C := RX2) (T := TX2) (N := 36) rfl in_X2 (by decide) q1070 rfl dX2_layMost_22 hf (fun x7 hf => ?_)
    refine lv_icmp_ge (tgt := 86) X.hx X.hb dX2_layMost_25 (by decide) (fun hc => ?_) (fun hc => ?_)
    · replace hf := gif_t hf hc
      clear hc
      exact r_rv X h hr hlk ((by first | exact Nat.le_of_ble_eq_true rfl | omega | (dsimp only; omega))) ((by first | exact Nat.le_of_ble_eq_true rfl | omega | (dsimp only; omega))) dX2_layMost_86 hf
    · replace hf := gif_f hf hc
      clear hc
      refine lv_iload_n X.hx X.hb dX2_layMost_28 rfl (lv_at hl 2 rfl) ?_
      refine lv_iload_n X.hx X.hb dX2_layMost_29 rfl (lv_at hl 3 rfl) ?_
      refine r_cSI (As := [.int a2, .int x4]) (rest := []) X h hf (fun res hres => wX2_has l Γ ad _ a2 x4 res hres) (va_cwS 2 X.hts (lw_S q1442 q1443 q84 q1444) rfl rfl rfl (by decide +kernel) ⟨(by first | exact Nat.le_of_ble_eq_true rfl | omega | (dsimp only; omega)), (by first | exact Nat.le_of_ble_eq_true rfl | omega | (dsimp only; omega))⟩) rfl ⟨hl.1, Nat.le_of_ble_eq_true rfl, (by first | exact Nat.le_of_ble_eq_true rfl | omega | (dsimp only; omega)), (by first | exact Nat.le_of_ble_eq_true rfl | omega | (dsimp only; omega))⟩ rfl dX2_layMost_30 (fun x8 μ9 H locs hf h => ?_)
      refine r_jn hf (fun j11 ej11 hf => ?_)
      have hj11 : ∀  (μ10 : gM) (H : Heap) (locs : List Loc) (ls : Array Slot), j11  μ10 = some r → gWd Γ A nz ad μ10 s.heap H locs → lv_has ls 4 [(0, .ref (ad b0)), (1, .int a1), (2, .int a2), (3, .int x4)] → W p l e ({ frames := 3 + (dd + 1), cells := 0, slots := 0, locals := 70 + (dd + 1) * 23 } : Room) s m args below meth c H locs 0 0 (MQ below (gQ0 Γ ad nz r A) args s 0 0 A) (F0 m 80 ls []) := by
        intro μ10 H locs ls hf h hl
        rw [ej11] at hf
        refine r_nmk hf (fun x12 ex hf => ?_)
        refine lv_iinc (v := x12) (lv' := [(3, .int x12), (0, .ref (ad b0)), (1, .int a1), (2, .int a2)]) X.hx X.hb dX2_layMost_80 hl (k := 3) rfl (by rw [ex]; rfl) (by decide) rfl (fun ls hl => ?_)
        clear ex
        refine lv_goto (tgt := 20) X.hx X.hb dX2_layMost_83 (by decide) ?_
        exact ih _ _ _ _ _ hf h (lv_sub hl [1, 2, 3, 0] rfl)
      clear ej11
      refine lv_if_ne (tgt := 80) X.hx X.hb dX2_layMost_33 (by decide) (fun hc => ?_) (fun hc => ?_)
      · replace hf := gif_f hf hc
        clear hc
        exact hj11 _ _ _ _ hf h (lv_sub hl [0, 1, 2, 3] rfl)
      · replace hf := gif_t hf hc
        clear hc
        refine lv_aload_n X.hx X.hb dX2_layMost_36 rfl (lv_at hl 0 rfl) ?_
        refine lv_iload_n X.hx X.hb dX2_layMost_37 rfl (lv_at hl 1 rfl) ?_
        refine lv_iload_n X.hx X.hb dX2_layMost_38 rfl (lv_at hl 3 rfl) ?_
        refine r_cVI (As := [.int a1, .int x4]) (rest := []) (C := RX2) (T := TX2) (N := 36) X h hf (fun res hres => wX2_canPlay l Γ ad _ b0 a1 x4 res hres) rfl (cwV 2 X.hts (lw_V q1293 q1295 qs50 q84 q1296) rfl rfl rfl (by decide +kernel) ⟨(by first | exact Nat.le_of_ble_eq_true rfl | omega | (dsimp only; omega)), (by first | exact Nat.le_of_ble_eq_true rfl | omega | (dsimp only; omega))⟩) rfl ⟨hl.1, Nat.le_of_ble_eq_true rfl, (by first | exact Nat.le_of_ble_eq_true rfl | omega | (dsimp only; omega)), (by first | exact Nat.le_of_ble_eq_true rfl | omega | (dsimp only; omega))⟩ rfl dX2_layMost_39 (fun x13 μ14 H locs hf h => ?_)
        refine lv_if_eq (tgt := 80) X.hx X.hb dX2_layMost_42 (by decide) (fun hc => ?_) (fun hc => ?_)
        · replace hf := gif_t hf hc
          clear hc
          exact hj11 _ _ _ _ hf h (lv_sub hl [0, 1, 2, 3] rfl)
        · replace hf := gif_f hf hc
          clear hc
          refine lv_aload_n X.hx X.hb dX2_layMost_45 rfl (lv_at hl 0 rfl) ?_
          refine lv_iload_n X.hx X.hb dX2_layMost_46 rfl (lv_at hl 1 rfl) ?_
          refine lv_iload_n X.hx X.hb dX2_layMost_47 rfl (lv_at hl 1 rfl) ?_
          refine lv_iconst (v := 1) X.hx X.hb dX2_layMost_48 (by decide) ?_
          refine lv_iadd X.hx X.hb dX2_layMost_49 ?_
          refine r_cVV (As := [.int a1, .int (a1 + 1)]) (rest := []) (C := RX2) (T := TX2) (N := 36) X h hf (fun res hres => wX2_copyTo l Γ ad _ b0 a1 (a1 + 1) res hres) rfl (cwV 2 X.hts (lw_V q1398 q1400 qs63 q84 q1401) rfl rfl rfl (by decide +kernel) ⟨(by first | exact Nat.le_of_ble_eq_true rfl | omega | (dsimp only; omega)), (by first | exact Nat.le_of_ble_eq_true rfl | omega | (dsimp only; omega))⟩) rfl ⟨hl.1, Nat.le_of_ble_eq_true rfl, (by first | exact Nat.le_of_ble_eq_true rfl | omega | (dsimp only; omega)), (by first | exact Nat.le_of_ble_eq_true rfl | omega | (dsimp only; omega))⟩ rfl dX2_layMost_50 (fun μ15 H locs hf h => ?_)
          refine lv_aload_n X.hx X.hb dX2_layMost_53 rfl (lv_at hl 0 rfl) ?_
          refine lv_iload_n X.hx X.hb dX2_layMost_54 rfl (lv_at hl 1 rfl) ?_
          refine lv_iconst (v := 1) X.hx X.hb dX2_layMost_55 (by decide) ?_
          refine lv_iadd X.hx X.hb dX2_layMost_56 ?_
          refine lv_iload_n X.hx X.hb dX2_layMost_57 rfl (lv_at hl 3 rfl) ?_
          refine r_cVV (As := [.int (a1 + 1), .int x4]) (rest := []) (C := RX2) (T := TX2) (N := 36) X h hf (fun res hres => wX2_plays l Γ ad _ b0 (a1 + 1) x4 res hres) rfl (cwV 2 X.hts (lw_V q1330 q1332 qs54 q84 q1333) rfl rfl rfl (by decide +kernel) ⟨(by first | exact Nat.le_of_ble_eq_true rfl | omega | (dsimp only; omega)), (by first | exact Nat.le_of_ble_eq_true rfl | omega | (dsimp only; omega))⟩) rfl ⟨hl.1, Nat.le_of_ble_eq_true rfl, (by first | exact Nat.le_of_ble_eq_true rfl | omega | (dsimp only; omega)), (by first | exact Nat.le_of_ble_eq_true rfl | omega | (dsimp only; omega))⟩ rfl dX2_layMost_58 (fun μ16 H locs hf h => ?_)
          refine lv_aload_n X.hx X.hb dX2_layMost_61 rfl (lv_at hl 0 rfl) ?_
          refine r_getP X h (ci := 2) (k := 28) (C := RX2) (T := TX2) (N := 36) rfl in_X2 (by decide) q1087 rfl dX2_layMost_62 hf (fun i17 hf => ?_)
          refine lv_iload_n X.hx X.hb dX2_layMost_65 rfl (lv_at hl 1 rfl) ?_
          refine lv_iload_n X.hx X.hb dX2_layMost_66 rfl (lv_at hl 3 rfl) ?_
          refine r_iast X h dX2_layMost_67 hf (fun μ18 H locs hf h => ?_)
          refine lv_aload_n X.hx X.hb dX2_layMost_68 rfl (lv_at hl 0 rfl) ?_
          refine lv_iload_n X.hx X.hb dX2_layMost_69 rfl (lv_at hl 1 rfl) ?_
          refine lv_iconst (v := 1) X.hx X.hb dX2_layMost_70 (by decide) ?_
          refine lv_iadd X.hx X.hb dX2_layMost_71 ?_
          refine lv_iload_n X.hx X.hb dX2_layMost_72 rfl (lv_at hl 2 rfl) ?_
          refine lv_iconst (v := 1) X.hx X.hb dX2_layMost_73 (by decide) ?_
          refine lv_iload_n X.hx X.hb dX2_layMost_74 rfl (lv_at hl 3 rfl) ?_
          refine lv_ishl X.hx X.hb dX2_layMost_75 ?_
          refine lv_ior X.hx X.hb dX2_layMost_76 ?_
          refine r_cVV (As := [.int (a1 + 1), .int (a2 ||| (1 <<< (x4 &&& 31)))]) (rest := []) (C := RX2) (T := TX2) (N := 36) X h hf (fun res hres => hrec ad _ b0 (a1 + 1) (a2 ||| (1 <<< (x4 &&& 31))) res hres) rfl (cwV 2 X.hts (lw_V q1434 q1436 qs67 q84 q1437) rfl rfl rfl (by decide +kernel) ⟨(by first | exact Nat.le_of_ble_eq_true rfl | omega | (dsimp only; omega)), (by first | exact Nat.le_of_ble_eq_true rfl | omega | (dsimp only; omega))⟩) rfl ⟨hl.1, Nat.le_of_ble_eq_true rfl, (by first | exact Nat.le_of_ble_eq_true rfl | omega | (dsimp only; omega)), (by first | exact Nat.le_of_ble_eq_true rfl | omega | (dsimp only; omega))⟩ rfl dX2_layMost_77 (fun μ19 H locs hf h => ?_)
          exact hj11 _ _ _ _ hf h (lv_sub hl [0, 1, 2, 3] rfl)
def fX2_layMost_B (rec : gM → Nat → Int32 → Int32 → gR) (μ0 : gM) (b0 : Nat) (a1 : Int32) (a2 : Int32) : gR := gI (gfld μ0 b0 2 30) fun x1 => gjn (fun  (μ2 : gM) => fX2_layMost_L20 rec b0 a1 a2 10000 0 μ2) fun j3 => if a1 ≤ x1 then (j3 μ0) else (gpf μ0 b0 2 30 (.int a1) fun μ20 => gis μ20 b0 2 <| cV (fX2_takeTried μ20 b0 a1) fun μ21 => j3 μ21)
set_option maxHeartbeats 4000000 in
theorem wX2_layMost_B (l : Launch) (Γ : gG) (dd : Nat) (rec : gM → Nat → Int32 → Int32 → gR) (hrec : ∀ (ad : Nat → Nat) (μ : gM) (b0 : Nat) (a1 : Int32) (a2 : Int32) (r : Option Value × gM), rec μ b0 a1 a2 = some r → gMt0 l Γ yX2_layMost (ws_ yX2_layMost cX2_layMost 4 none) ({ frames := 3 + dd, cells := 0, slots := 0, locals := 70 + dd * 23 } : Room) 0 0 ad μ [.ref (ad b0), .int a1, .int a2] r) (ad : Nat → Nat) (μ0 : gM) (b0 : Nat) (a1 : Int32) (a2 : Int32) (r : Option Value × gM) (hf : fX2_layMost_B rec μ0 b0 a1 a2 = some r) : gMt0 l Γ yX2_layMost (ws_ yX2_layMost cX2_layMost 4 none) ({ frames := 3 + (dd + 1), cells := 0, slots := 0, locals := 70 + (dd + 1) * 23 } : Room) 0 0 ad μ0 [.ref (ad b0), .int a1, .int a2] r := by
  intro sz
  refine g_start (maxL := 4) (ret := none) (by decide) rfl g_all (Nat.le_of_ble_eq_true rfl) ?_
  intro p e s m below meth c ls hr hlk hnm X h hl
  generalize gA ad μ0 sz = A at X h ⊢
  generalize ([.ref (ad b0), .int a1, .int a2] : List Value).toArray = args at X ⊢
  have X : gX p m c cX2_layMost 4 s args "SandPianoModel" Γ A := X
  have hl : lv_has ls 4 [(0, .ref (ad b0)), (1, .int a1), (2, .int a2)] := hl
  show W p l e ({ frames := 3 + (dd + 1), cells := 0, slots := 0, locals := 70 + (dd + 1) * 23 } : Room) s m args below meth c s.heap [] 0 0 (MQ below (gQ0 Γ ad μ0.1 r A) args s 0 0 A) (F0 m 0 ls [])
  unfold fX2_layMost_B at hf
  refine lv_iload_n X.hx X.hb dX2_layMost_0 rfl (lv_at hl 1 rfl) ?_
  refine lv_aload_n X.hx X.hb dX2_layMost_1 rfl (lv_at hl 0 rfl) ?_
  refine r_getI X h (ci := 2) (k := 30) (C := RX2) (T := TX2) (N := 36) rfl in_X2 (by decide) q1089 rfl dX2_layMost_2 hf (fun x1 hf => ?_)
  refine r_jn hf (fun j3 ej3 hf => ?_)
  have hj3 : ∀  (μ2 : gM) (H : Heap) (locs : List Loc) (ls : Array Slot), j3  μ2 = some r → gWd Γ A μ0.1 ad μ2 s.heap H locs → lv_has ls 4 [(0, .ref (ad b0)), (1, .int a1), (2, .int a2)] → W p l e ({ frames := 3 + (dd + 1), cells := 0, slots := 0, locals := 70 + (dd + 1) * 23 } : Room) s m args below meth c H locs 0 0 (MQ below (gQ0 Γ ad μ0.1 r A) args s 0 0 A) (F0 m 18 ls []) := by
    intro μ2 H locs ls hf h hl
    rw [ej3] at hf
    refine lv_iconst (v := 0) X.hx X.hb dX2_layMost_18 (by decide) ?_
    refine lv_istore_n (lv' := [(3, .int 0), (0, .ref (ad b0)), (1, .int a1), (2, .int a2)]) X.hx X.hb dX2_layMost_19 rfl hl (by decide) rfl (fun ls hl => ?_)
    refine wX2_layMost_L20 l _ rec b0 a1 a2 X hr hlk hrec 10000 _ _ _ _ _ hf h (lv_sub hl [1, 2, 3, 0] rfl)
  clear ej3
  refine lv_icmp_le (tgt := 18) X.hx X.hb dX2_layMost_5 (by decide) (fun hc => ?_) (fun hc => ?_)
  · replace hf := gif_t hf hc
    clear hc
    exact hj3 _ _ _ _ hf h (lv_sub hl [0, 1, 2] rfl)
  · replace hf := gif_f hf hc
    clear hc
    refine lv_aload_n X.hx X.hb dX2_layMost_8 rfl (lv_at hl 0 rfl) ?_
    refine lv_iload_n X.hx X.hb dX2_layMost_9 rfl (lv_at hl 1 rfl) ?_
    refine r_put X h (ci := 2) (k := 30) (C := RX2) (T := TX2) (N := 36) (ty0 := tyX2) (ty := .int) (v := .int a1) rfl in_X2 tyX2_ok nmX2 (by decide) q1089 rfl rfl (by decide +kernel) rfl rfl (fun j hj => by cases hj) dX2_layMost_10 hf (fun μ20 H locs hf h => ?_)
    refine lv_aload_n X.hx X.hb dX2_layMost_13 rfl (lv_at hl 0 rfl) ?_
    refine lv_iload_n X.hx X.hb dX2_layMost_14 rfl (lv_at hl 1 rfl) ?_
    refine r_cVV (As := [.int a1]) (rest := []) (C := RX2) (T := TX2) (N := 36) X h hf (fun res hres => wX2_takeTried l Γ ad _ b0 a1 res hres) rfl (cwV 1 X.hts (lw_V q1438 q1440 qs68 q84 q1441) rfl rfl rfl (by decide +kernel) ⟨(by first | exact Nat.le_of_ble_eq_true rfl | omega | (dsimp only; omega)), (by first | exact Nat.le_of_ble_eq_true rfl | omega | (dsimp only; omega))⟩) rfl ⟨hl.1, Nat.le_of_ble_eq_true rfl, (by first | exact Nat.le_of_ble_eq_true rfl | omega | (dsimp only; omega)), (by first | exact Nat.le_of_ble_eq_true rfl | omega | (dsimp only; omega))⟩ rfl dX2_layMost_15 (fun μ21 H locs hf h => ?_)
    exact hj3 _ _ _ _ hf h (lv_sub hl [0, 1, 2] rfl)
def fX2_layMost : Nat → gM → Nat → Int32 → Int32 → gR
  | 0, _, _, _, _ => none
  | d + 1, μ0, b0, a1, a2 => fX2_layMost_B (fX2_layMost d) μ0 b0 a1 a2
theorem wX2_layMost (l : Launch) (Γ : gG) : ∀ (dd : Nat) (ad : Nat → Nat) (μ0 : gM) (b0 : Nat) (a1 : Int32) (a2 : Int32) (r : Option Value × gM), fX2_layMost dd μ0 b0 a1 a2 = some r → gMt0 l Γ yX2_layMost (ws_ yX2_layMost cX2_layMost 4 none) ({ frames := 3 + dd, cells := 0, slots := 0, locals := 70 + dd * 23 } : Room) 0 0 ad μ0 [.ref (ad b0), .int a1, .int a2] r := by
  intro dd
  induction dd with
  | zero =>
    intro ad μ0 b0 a1 a2 r hf
    have hf : (none : gR) = some r := hf
    cases hf
  | succ dd ih =>
    intro ad μ0 b0 a1 a2 r hf
    exact wX2_layMost_B l Γ dd (fX2_layMost dd) ih ad μ0 b0 a1 a2 r hf
