set_option maxRecDepth 100000
/-! X0_chances -/
def fX0_chances (μ0 : gM) (b0 : Nat) (a1 : Int64) (a2 : Int64) : gR := cJ (fX0_divisor μ0 a1 a2) fun x1 μ2 => gne x1 0 <| gpf μ2 b0 0 3 (.long (a1 / x1)) fun μ3 => gne x1 0 <| gpf μ3 b0 0 4 (.long (a2 / x1)) fun μ4 => some (some (.int 1), μ4)
set_option maxHeartbeats 4000000 in
theorem wX0_chances (l : Launch) (Γ : gG) (ad : Nat → Nat) (μ0 : gM) (b0 : Nat) (a1 : Int64) (a2 : Int64) (r : Option Value × gM) (hf : fX0_chances μ0 b0 a1 a2 = some r) : gMt0 l Γ yX0_chances (ws_ yX0_chances cX0_chances 7 (some .int)) ({ frames := 1, cells := 0, slots := 0, locals := 29 } : Room) 0 0 ad μ0 [.ref (ad b0), .long a1, .long a2] r := by
  intro sz
  refine g_start (maxL := 7) (ret := (some .int)) (by decide) rfl g_all (Nat.le_of_ble_eq_true rfl) ?_
  intro p e s m below meth c ls hr hlk hnm X h hl
  generalize gA ad μ0 sz = A at X h ⊢
  generalize ([.ref (ad b0), .long a1, .long a2] : List Value).toArray = args at X ⊢
  have X : gX p m c cX0_chances 7 s args "SandPiano" Γ A := X
  have hl : lv_has ls 7 [(0, .ref (ad b0)), (1, .long a1), (3, .long a2)] := hl
  show W p l e ({ frames := 1, cells := 0, slots := 0, locals := 29 } : Room) s m args below meth c s.heap [] 0 0 (MQ below (gQ0 Γ ad μ0.1 r A) args s 0 0 A) (F0 m 0 ls [])
  unfold fX0_chances at hf
  refine lv_lload_n X.hx X.hb dX0_chances_0 rfl (lv_at hl 1 rfl) ?_
  refine lv_lload_n X.hx X.hb dX0_chances_1 rfl (lv_at hl 2 rfl) ?_
  refine r_cSJ (As := [.long a1, .long a2]) (rest := []) X h hf (fun res hres => wX0_divisor l Γ ad _ a1 a2 res hres) (va_cwS 2 X.hts (lw_S q955 q956 q82 q957) rfl rfl rfl (by decide +kernel) ⟨Nat.le_of_ble_eq_true rfl, Nat.le_of_ble_eq_true rfl⟩) rfl ⟨hl.1, Nat.le_of_ble_eq_true rfl, Nat.le_of_ble_eq_true rfl, Nat.le_of_ble_eq_true rfl⟩ rfl dX0_chances_2 (fun x1 μ2 H locs hf h => ?_)
  refine lv_lstore (lv' := [(5, .long x1), (0, .ref (ad b0)), (1, .long a1), (3, .long a2)]) X.hx X.hb dX0_chances_5 hl (by decide) rfl (fun ls hl => ?_)
  refine lv_aload_n X.hx X.hb dX0_chances_7 rfl (lv_at hl 1 rfl) ?_
  refine lv_lload_n X.hx X.hb dX0_chances_8 rfl (lv_at hl 2 rfl) ?_
  refine lv_lload X.hx X.hb dX0_chances_9 (lv_at hl 0 rfl) ?_
  obtain ⟨hne, hf⟩ := gne_some hf
  refine lv_ldiv X.hx X.hb dX0_chances_11 hne ?_
  refine r_put X h (ci := 0) (k := 3) (C := RX0) (T := TX0) (N := 36) (ty0 := tyX0) (ty := .long) (v := .long (a1 / x1)) rfl in_X0 tyX0_ok nmX0 (by decide) q144 rfl rfl (by decide +kernel) rfl rfl (fun j hj => by cases hj) dX0_chances_12 hf (fun μ3 H locs hf h => ?_)
  refine lv_aload_n X.hx X.hb dX0_chances_15 rfl (lv_at hl 1 rfl) ?_
  refine lv_lload_n X.hx X.hb dX0_chances_16 rfl (lv_at hl 3 rfl) ?_
  refine lv_lload X.hx X.hb dX0_chances_17 (lv_at hl 0 rfl) ?_
  obtain ⟨hne, hf⟩ := gne_some hf
  refine lv_ldiv X.hx X.hb dX0_chances_19 hne ?_
  refine r_put X h (ci := 0) (k := 4) (C := RX0) (T := TX0) (N := 36) (ty0 := tyX0) (ty := .long) (v := .long (a2 / x1)) rfl in_X0 tyX0_ok nmX0 (by decide) q145 rfl rfl (by decide +kernel) rfl rfl (fun j hj => by cases hj) dX0_chances_20 hf (fun μ4 H locs hf h => ?_)
  refine lv_iconst (v := 1) X.hx X.hb dX0_chances_23 (by decide) ?_
  exact r_ri X h hr hlk (Nat.le_of_ble_eq_true rfl) (Nat.le_of_ble_eq_true rfl) dX0_chances_24 hf
/-! X0_bet -/
def fX0_bet_L50 (b0 : Nat) (a2 : Int32) (kx68 : Int64 → gM → gR) : Nat → Int64 → Int32 → gM → gR
  | 0, _, _, _ => none
  | n15 + 1, x12, x13, μ14 => if a2 ≤ x13 then (kx68 x12 μ14) else (gnm ((x12 * 60)) fun x16 => gnm (x13 + 1) fun x17 => fX0_bet_L50 b0 a2 kx68 n15 x16 x17 μ14)
set_option maxHeartbeats 4000000 in
theorem wX0_bet_L50 {p : Program} {e : Env} {s : State} {m : MethodId} {args : Array Value} {below : List Frame} {meth : Method} {c : Code} {Γ : gG} {A : Nat → Prop} {nz : Nat} {ad : Nat → Nat} {r : Option Value × gM} (l : Launch) (b0 : Nat) (a2 : Int32) (kx68 : Int64 → gM → gR) (X : gX p m c cX0_bet 6 s args "SandPiano" Γ A) (hr : meth.sig.returnType = (some .int)) (hlk : meth.locks = false) (hk68 : ∀ (x18 : Int64) (μ : gM) (H : Heap) (locs : List Loc) (ls : Array Slot), kx68 x18 μ = some r → gWd Γ A nz ad μ s.heap H locs → lv_has ls 6 [(0, .ref (ad b0)), (3, .long x18)] → W p l e ({ frames := 14, cells := 0, slots := 0, locals := 372 } : Room) s m args below meth c H locs 0 0 (MQ below (gQ0 Γ ad nz r A) args s 0 0 A) (F0 m 68 ls [])) : ∀ (n15 : Nat) (x12 : Int64) (x13 : Int32) (μ14 : gM) (H : Heap) (locs : List Loc) (ls : Array Slot), fX0_bet_L50 b0 a2 kx68 n15 x12 x13 μ14 = some r → gWd Γ A nz ad μ14 s.heap H locs → lv_has ls 6 [(0, .ref (ad b0)), (2, .int a2), (3, .long x12), (5, .int x13)] → W p l e ({ frames := 14, cells := 0, slots := 0, locals := 372 } : Room) s m args below meth c H locs 0 0 (MQ below (gQ0 Γ ad nz r A) args s 0 0 A) (F0 m 50 ls []) := by
  intro n15
  induction n15 with
  | zero =>
    intro x12 x13 μ14 H locs ls hf h hl
    have hf : (none : gR) = some r := hf
    cases hf
  | succ n15 ih =>
    intro x12 x13 μ14 H locs ls hf h hl
    rw [fX0_bet_L50] at hf
    refine lv_iload X.hx X.hb dX0_bet_50 (lv_at hl 3 rfl) ?_
    refine lv_iload_n X.hx X.hb dX0_bet_52 rfl (lv_at hl 1 rfl) ?_
    refine lv_icmp_ge (tgt := 68) X.hx X.hb dX0_bet_53 (by decide) (fun hc => ?_) (fun hc => ?_)
    · replace hf := gif_t hf hc
      clear hc
      exact hk68 _ _ _ _ _ hf h (lv_sub hl [0, 2] rfl)
    · replace hf := gif_f hf hc
      clear hc
      refine lv_lload_n X.hx X.hb dX0_bet_56 rfl (lv_at hl 2 rfl) ?_
      refine lv_ldc2 (v := 60) X.hx X.hb X.hown (X.hts _ q966) dX0_bet_57 ?_
      refine lv_lmul X.hx X.hb dX0_bet_60 ?_
      refine r_nmJ hf (fun x16 hf => ?_)
      refine lv_lstore_n (lv' := [(3, .long x16), (0, .ref (ad b0)), (2, .int a2), (5, .int x13)]) X.hx X.hb dX0_bet_61 rfl hl (by decide) rfl (fun ls hl => ?_)
      refine r_nmk hf (fun x17 ex hf => ?_)
      refine lv_iinc (v := x17) (lv' := [(5, .int x17), (3, .long x16), (0, .ref (ad b0)), (2, .int a2)]) X.hx X.hb dX0_bet_62 hl (k := 3) rfl (by rw [ex]; rfl) (by decide) rfl (fun ls hl => ?_)
      clear ex
      refine lv_goto (tgt := 50) X.hx X.hb dX0_bet_65 (by decide) ?_
      exact ih _ _ _ _ _ _ hf h (lv_sub hl [2, 3, 1, 0] rfl)
def fX0_bet (μ0 : gM) (b0 : Nat) (a1 : Int32) (a2 : Int32) : gR := gis μ0 b0 0 <| cI (fX0_isKey μ0 b0 a1) fun x1 μ2 => if x1 = 0 then (some (some (.int (-1)), μ2)) else (cI (fX0_isIn μ2 a2 0 5) fun x3 μ4 => if x3 = 0 then (some (some (.int (-1)), μ4)) else (gP (gfld μ4 b0 0 25) fun i5 => gaQ μ4 7 i5 0 fun o6 => gnn o6 fun i7 => gP (gfld μ4 b0 0 10) fun i8 => gis μ4 i7 1 <| cV (fX1_take μ4 i7 i8) fun μ9 => gpf μ9 b0 0 34 (.long 0) fun μ10 => gis μ10 b0 0 <| cV (fX0_betOn 8 μ10 b0 0 a2 a1 1) fun μ11 => fX0_bet_L50 b0 a2 (fun (x19 : Int64) (μ20 : gM) => gJ (gfld μ20 b0 0 34) fun x21 => gis μ20 b0 0 <| cI (fX0_chances μ20 b0 x21 x19) fun x22 μ23 => some (some (.int x22), μ23)) 10000 1 0 μ11))
set_option maxHeartbeats 4000000 in
theorem wX0_bet (l : Launch) (Γ : gG) (ad : Nat → Nat) (μ0 : gM) (b0 : Nat) (a1 : Int32) (a2 : Int32) (r : Option Value × gM) (hf : fX0_bet μ0 b0 a1 a2 = some r) : gMt0 l Γ yX0_bet (ws_ yX0_bet cX0_bet 6 (some .int)) ({ frames := 14, cells := 0, slots := 0, locals := 372 } : Room) 0 0 ad μ0 [.ref (ad b0), .int a1, .int a2] r := by
  intro sz
  refine g_start (maxL := 6) (ret := (some .int)) (by decide) rfl g_all (Nat.le_of_ble_eq_true rfl) ?_
  intro p e s m below meth c ls hr hlk hnm X h hl
  generalize gA ad μ0 sz = A at X h ⊢
  generalize ([.ref (ad b0), .int a1, .int a2] : List Value).toArray = args at X ⊢
  have X : gX p m c cX0_bet 6 s args "SandPiano" Γ A := X
  have hl : lv_has ls 6 [(0, .ref (ad b0)), (1, .int a1), (2, .int a2)] := hl
  show W p l e ({ frames := 14, cells := 0, slots := 0, locals := 372 } : Room) s m args below meth c s.heap [] 0 0 (MQ below (gQ0 Γ ad μ0.1 r A) args s 0 0 A) (F0 m 0 ls [])
  unfold fX0_bet at hf
  refine lv_aload_n X.hx X.hb dX0_bet_0 rfl (lv_at hl 0 rfl) ?_
  refine lv_iload_n X.hx X.hb dX0_bet_1 rfl (lv_at hl 1 rfl) ?_
  refine r_cVI (As := [.int a1]) (rest := []) (C := RX0) (T := TX0) (N := 36) X h hf (fun res hres => wX0_isKey l Γ ad _ b0 a1 res hres) rfl (cwV 1 X.hts (lw_V q549 q551 qs9 q82 q552) rfl rfl rfl (by decide +kernel) ⟨Nat.le_of_ble_eq_true rfl, Nat.le_of_ble_eq_true rfl⟩) rfl ⟨hl.1, Nat.le_of_ble_eq_true rfl, Nat.le_of_ble_eq_true rfl, Nat.le_of_ble_eq_true rfl⟩ rfl dX0_bet_2 (fun x1 μ2 H locs hf h => ?_)
  refine lv_if_eq (tgt := 17) X.hx X.hb dX0_bet_5 (by decide) (fun hc => ?_) (fun hc => ?_)
  · replace hf := gif_t hf hc
    clear hc
    refine lv_iconst (v := (-1)) X.hx X.hb dX0_bet_17 (by decide) ?_
    exact r_ri X h hr hlk (Nat.le_of_ble_eq_true rfl) (Nat.le_of_ble_eq_true rfl) dX0_bet_18 hf
  · replace hf := gif_f hf hc
    clear hc
    refine lv_iload_n X.hx X.hb dX0_bet_8 rfl (lv_at hl 2 rfl) ?_
    refine lv_iconst (v := 0) X.hx X.hb dX0_bet_9 (by decide) ?_
    refine lv_iconst (v := 5) X.hx X.hb dX0_bet_10 (by decide) ?_
    refine r_cSI (As := [.int a2, .int 0, .int 5]) (rest := []) X h hf (fun res hres => wX0_isIn l Γ ad _ a2 0 5 res hres) (va_cwS 3 X.hts (lw_S q344 q345 q82 q346) rfl rfl rfl (by decide +kernel) ⟨Nat.le_of_ble_eq_true rfl, Nat.le_of_ble_eq_true rfl⟩) rfl ⟨hl.1, Nat.le_of_ble_eq_true rfl, Nat.le_of_ble_eq_true rfl, Nat.le_of_ble_eq_true rfl⟩ rfl dX0_bet_11 (fun x3 μ4 H locs hf h => ?_)
    refine lv_if_ne (tgt := 19) X.hx X.hb dX0_bet_14 (by decide) (fun hc => ?_) (fun hc => ?_)
    · replace hf := gif_f hf hc
      clear hc
      refine lv_aload_n X.hx X.hb dX0_bet_19 rfl (lv_at hl 0 rfl) ?_
      refine r_getP X h (ci := 0) (k := 25) (C := RX0) (T := TX0) (N := 36) rfl in_X0 (by decide) q167 rfl dX0_bet_20 hf (fun i5 hf => ?_)
      refine lv_iconst (v := 0) X.hx X.hb dX0_bet_23 (by decide) ?_
      refine r_aald X h (t := 7) rfl rfl dX0_bet_24 hf (fun o6 hf => ?_)
      refine r_nn hf (fun i7 hf => ?_)
      refine lv_aload_n X.hx X.hb dX0_bet_25 rfl (lv_at hl 0 rfl) ?_
      refine r_getP X h (ci := 0) (k := 10) (C := RX0) (T := TX0) (N := 36) rfl in_X0 (by decide) q152 rfl dX0_bet_26 hf (fun i8 hf => ?_)
      refine r_cVV (As := [.ref (ad i8)]) (rest := []) (C := RX1) (T := TX1) (N := 1) X h hf (fun res hres => wX1_take l Γ ad _ i7 i8 res hres) rfl (cwV 1 X.hts (lw_V q832 q833 q834 q83 q835) rfl rfl rfl (by decide +kernel) ⟨Nat.le_of_ble_eq_true rfl, Nat.le_of_ble_eq_true rfl⟩) rfl ⟨hl.1, Nat.le_of_ble_eq_true rfl, Nat.le_of_ble_eq_true rfl, Nat.le_of_ble_eq_true rfl⟩ rfl dX0_bet_29 (fun μ9 H locs hf h => ?_)
      refine lv_aload_n X.hx X.hb dX0_bet_32 rfl (lv_at hl 0 rfl) ?_
      refine lv_lconst (v := 0) X.hx X.hb dX0_bet_33 (by decide) ?_
      refine r_put X h (ci := 0) (k := 34) (C := RX0) (T := TX0) (N := 36) (ty0 := tyX0) (ty := .long) (v := .long 0) rfl in_X0 tyX0_ok nmX0 (by decide) q176 rfl rfl (by decide +kernel) rfl rfl (fun j hj => by cases hj) dX0_bet_34 hf (fun μ10 H locs hf h => ?_)
      refine lv_aload_n X.hx X.hb dX0_bet_37 rfl (lv_at hl 0 rfl) ?_
      refine lv_iconst (v := 0) X.hx X.hb dX0_bet_38 (by decide) ?_
      refine lv_iload_n X.hx X.hb dX0_bet_39 rfl (lv_at hl 2 rfl) ?_
      refine lv_iload_n X.hx X.hb dX0_bet_40 rfl (lv_at hl 1 rfl) ?_
      refine lv_lconst (v := 1) X.hx X.hb dX0_bet_41 (by decide) ?_
      refine r_cVV (As := [.int 0, .int a2, .int a1, .long 1]) (rest := []) (C := RX0) (T := TX0) (N := 36) X h hf (fun res hres => wX0_betOn l Γ 8 ad _ b0 0 a2 a1 1 res hres) rfl (cwV 4 X.hts (lw_V q962 q964 qs32 q82 q965) rfl rfl rfl (by decide +kernel) ⟨Nat.le_of_ble_eq_true rfl, Nat.le_of_ble_eq_true rfl⟩) rfl ⟨hl.1, Nat.le_of_ble_eq_true rfl, Nat.le_of_ble_eq_true rfl, Nat.le_of_ble_eq_true rfl⟩ rfl dX0_bet_42 (fun μ11 H locs hf h => ?_)
      refine lv_lconst (v := 1) X.hx X.hb dX0_bet_45 (by decide) ?_
      refine lv_lstore_n (lv' := [(3, .long 1), (0, .ref (ad b0)), (1, .int a1), (2, .int a2)]) X.hx X.hb dX0_bet_46 rfl hl (by decide) rfl (fun ls hl => ?_)
      refine lv_iconst (v := 0) X.hx X.hb dX0_bet_47 (by decide) ?_
      refine lv_istore (lv' := [(5, .int 0), (3, .long 1), (0, .ref (ad b0)), (1, .int a1), (2, .int a2)]) X.hx X.hb dX0_bet_48 hl (by decide) rfl (fun ls hl => ?_)
      refine wX0_bet_L50 l b0 a2 _ X hr hlk (fun x19 μ20 H locs ls hf h hl => ?_) 10000 _ _ _ _ _ _ hf h (lv_sub hl [2, 4, 1, 0] rfl)
      refine lv_aload_n X.hx X.hb dX0_bet_68 rfl (lv_at hl 0 rfl) ?_
      refine lv_aload_n X.hx X.hb dX0_bet_69 rfl (lv_at hl 0 rfl) ?_
      refine r_getJ X h (ci := 0) (k := 34) (C := RX0) (T := TX0) (N := 36) rfl in_X0 (by decide) q176 rfl dX0_bet_70 hf (fun x21 hf => ?_)
      refine lv_lload_n X.hx X.hb dX0_bet_73 rfl (lv_at hl 1 rfl) ?_
      refine r_cVI (As := [.long x21, .long x19]) (rest := []) (C := RX0) (T := TX0) (N := 36) X h hf (fun res hres => wX0_chances l Γ ad _ b0 x21 x19 res hres) rfl (cwV 2 X.hts (lw_V q951 q953 qs31 q82 q954) rfl rfl rfl (by decide +kernel) ⟨Nat.le_of_ble_eq_true rfl, Nat.le_of_ble_eq_true rfl⟩) rfl ⟨hl.1, Nat.le_of_ble_eq_true rfl, Nat.le_of_ble_eq_true rfl, Nat.le_of_ble_eq_true rfl⟩ rfl dX0_bet_74 (fun x22 μ23 H locs hf h => ?_)
      exact r_ri X h hr hlk (Nat.le_of_ble_eq_true rfl) (Nat.le_of_ble_eq_true rfl) dX0_bet_77 hf
    · replace hf := gif_t hf hc
      clear hc
      refine lv_iconst (v := (-1)) X.hx X.hb dX0_bet_17 (by decide) ?_
      exact r_ri X h hr hlk (Nat.le_of_ble_eq_true rfl) (Nat.le_of_ble_eq_true rfl) dX0_bet_18 hf
/-! X0_playable -/
def fX0_playable (μ0 : gM) (b0 : Nat) : gR := gP (gfld μ0 b0 0 10) fun i1 => gis μ0 b0 0 <| cI (fX0_playableIn μ0 b0 i1) fun x2 μ3 => some (some (.int x2), μ3)
set_option maxHeartbeats 4000000 in
theorem wX0_playable (l : Launch) (Γ : gG) (ad : Nat → Nat) (μ0 : gM) (b0 : Nat) (r : Option Value × gM) (hf : fX0_playable μ0 b0 = some r) : gMt0 l Γ yX0_playable (ws_ yX0_playable cX0_playable 1 (some .int)) ({ frames := 4, cells := 0, slots := 0, locals := 84 } : Room) 0 0 ad μ0 [.ref (ad b0)] r := by
  intro sz
  refine g_start (maxL := 1) (ret := (some .int)) (by decide) rfl g_all (Nat.le_of_ble_eq_true rfl) ?_
  intro p e s m below meth c ls hr hlk hnm X h hl
  generalize gA ad μ0 sz = A at X h ⊢
  generalize ([.ref (ad b0)] : List Value).toArray = args at X ⊢
  have X : gX p m c cX0_playable 1 s args "SandPiano" Γ A := X
  have hl : lv_has ls 1 [(0, .ref (ad b0))] := hl
  show W p l e ({ frames := 4, cells := 0, slots := 0, locals := 84 } : Room) s m args below meth c s.heap [] 0 0 (MQ below (gQ0 Γ ad μ0.1 r A) args s 0 0 A) (F0 m 0 ls [])
  unfold fX0_playable at hf
  refine lv_aload_n X.hx X.hb dX0_playable_0 rfl (lv_at hl 0 rfl) ?_
  refine lv_aload_n X.hx X.hb dX0_playable_1 rfl (lv_at hl 0 rfl) ?_
  refine r_getP X h (ci := 0) (k := 10) (C := RX0) (T := TX0) (N := 36) rfl in_X0 (by decide) q152 rfl dX0_playable_2 hf (fun i1 hf => ?_)
  refine r_cVI (As := [.ref (ad i1)]) (rest := []) (C := RX0) (T := TX0) (N := 36) X h hf (fun res hres => wX0_playableIn l Γ ad _ b0 i1 res hres) rfl (cwV 1 X.hts (lw_V q700 q702 qs12 q82 q703) rfl rfl rfl (by decide +kernel) ⟨Nat.le_of_ble_eq_true rfl, Nat.le_of_ble_eq_true rfl⟩) rfl ⟨hl.1, Nat.le_of_ble_eq_true rfl, Nat.le_of_ble_eq_true rfl, Nat.le_of_ble_eq_true rfl⟩ rfl dX0_playable_5 (fun x2 μ3 H locs hf h => ?_)
  exact r_ri X h hr hlk (Nat.le_of_ble_eq_true rfl) (Nat.le_of_ble_eq_true rfl) dX0_playable_8 hf
/-! X0_can -/
def fX0_can (μ0 : gM) (b0 : Nat) : gR := gis μ0 b0 0 <| cI (fX0_playable μ0 b0) fun x1 μ2 => some (some (.int x1), μ2)
set_option maxHeartbeats 4000000 in
theorem wX0_can (l : Launch) (Γ : gG) (ad : Nat → Nat) (μ0 : gM) (b0 : Nat) (r : Option Value × gM) (hf : fX0_can μ0 b0 = some r) : gMt0 l Γ yX0_can (ws_ yX0_can cX0_can 1 (some .int)) ({ frames := 5, cells := 0, slots := 0, locals := 104 } : Room) 0 0 ad μ0 [.ref (ad b0)] r := by
  intro sz
  refine g_start (maxL := 1) (ret := (some .int)) (by decide) rfl g_all (Nat.le_of_ble_eq_true rfl) ?_
  intro p e s m below meth c ls hr hlk hnm X h hl
  generalize gA ad μ0 sz = A at X h ⊢
  generalize ([.ref (ad b0)] : List Value).toArray = args at X ⊢
  have X : gX p m c cX0_can 1 s args "SandPiano" Γ A := X
  have hl : lv_has ls 1 [(0, .ref (ad b0))] := hl
  show W p l e ({ frames := 5, cells := 0, slots := 0, locals := 104 } : Room) s m args below meth c s.heap [] 0 0 (MQ below (gQ0 Γ ad μ0.1 r A) args s 0 0 A) (F0 m 0 ls [])
  unfold fX0_can at hf
  refine lv_aload_n X.hx X.hb dX0_can_0 rfl (lv_at hl 0 rfl) ?_
  refine r_cVI (As := []) (rest := []) (C := RX0) (T := TX0) (N := 36) X h hf (fun res hres => wX0_playable l Γ ad _ b0 res hres) rfl (cwV 0 X.hts (lw_V q802 q698 qs11 q82 q699) rfl rfl rfl (by decide +kernel) ⟨Nat.le_of_ble_eq_true rfl, Nat.le_of_ble_eq_true rfl⟩) rfl ⟨hl.1, Nat.le_of_ble_eq_true rfl, Nat.le_of_ble_eq_true rfl, Nat.le_of_ble_eq_true rfl⟩ rfl dX0_can_1 (fun x1 μ2 H locs hf h => ?_)
  exact r_ri X h hr hlk (Nat.le_of_ble_eq_true rfl) (Nat.le_of_ble_eq_true rfl) dX0_can_4 hf
/-! X0_copy -/
def fX0_copy (μ0 : gM) (b0 : Nat) (a1 : Int32) (a2 : Int32) (a3 : Int32) (a4 : Int32) (a5 : Int32) : gR := cI (fX0_isRow μ0 a1) fun x1 μ2 => if x1 = 0 then (some (some (.int (-1)), μ2)) else (cI (fX0_isRow μ2 a3) fun x3 μ4 => if x3 = 0 then (some (some (.int (-1)), μ4)) else (if 0 ≤ a5 then (gP (gfld μ4 b0 0 5) fun i5 => gaQ μ4 3 i5 a1 fun o6 => gP (gfld μ4 b0 0 5) fun i7 => gaQ μ4 3 i7 a3 fun o8 => tcp μ4 o6 a2 o8 a4 a5 (gis μ4 b0 0 <| cI (fX0_found μ4 b0 1) fun x10 μ11 => some (some (.int x10), μ11)) (gis μ4 b0 0 <| cI (fX0_found μ4 b0 2) fun x12 μ13 => some (some (.int x12), μ13)) fun μ9 => some (some (.int 1), μ9)) else (gis μ4 b0 0 <| cI (fX0_found μ4 b0 5) fun x14 μ15 => some (some (.int x14), μ15))))
set_option maxHeartbeats 4000000 in
theorem wX0_copy (l : Launch) (Γ : gG) (hst : l.stackTraces = false) (ad : Nat → Nat) (μ0 : gM) (b0 : Nat) (a1 : Int32) (a2 : Int32) (a3 : Int32) (a4 : Int32) (a5 : Int32) (r : Option Value × gM) (hf : fX0_copy μ0 b0 a1 a2 a3 a4 a5 = some r) : gMtE0 l Γ yX0_copy (wsW_ yX0_copy cX0_copy 7 (some .int) [(27, 48, 49, 126), (27, 48, 57, 136)]) ({ frames := 9, cells := 3, slots := 370, locals := 10248 } : Room) 3 370 ad μ0 [.ref (ad b0), .int a1, .int a2, .int a3, .int a4, .int a5] r := by
  intro sz
  refine g_startW hst (maxL := 7) (ret := (some .int)) (by decide) rfl g_allW (Nat.le_of_ble_eq_true rfl) ?_
  intro p e s m below meth c ls hr hlk hnm X Y h hl
  generalize gA ad μ0 sz = A at X Y h ⊢
  generalize ([.ref (ad b0), .int a1, .int a2, .int a3, .int a4, .int a5] : List Value).toArray = args at X ⊢
  have X : gX p m c cX0_copy 7 s args "SandPiano" Γ A := X
  have hl : lv_has ls 7 [(0, .ref (ad b0)), (1, .int a1), (2, .int a2), (3, .int a3), (4, .int a4), (5, .int a5)] := hl
  show W p l e ({ frames := 9, cells := 3, slots := 370, locals := 10248 } : Room) s m args below meth c s.heap [] 0 0 (MQ below (gQ0 Γ ad μ0.1 r A) args s 3 370 A) (F0 m 0 ls [])
  unfold fX0_copy at hf
  refine lv_iload_n X.hx X.hb dX0_copy_0 rfl (lv_at hl 1 rfl) ?_
  refine r_cSI (As := [.int a1]) (rest := []) X h hf (fun res hres => wX0_isRow l Γ ad _ a1 res hres) (va_cwS 1 X.hts (lw_S q341 q342 q82 q343) rfl rfl rfl (by decide +kernel) ⟨Nat.le_of_ble_eq_true rfl, Nat.le_of_ble_eq_true rfl⟩) rfl ⟨hl.1, Nat.le_of_ble_eq_true rfl, Nat.le_of_ble_eq_true rfl, Nat.le_of_ble_eq_true rfl⟩ rfl dX0_copy_1 (fun x1 μ2 H locs hf h => ?_)
  refine lv_if_eq (tgt := 14) X.hx X.hb dX0_copy_4 (by decide) (fun hc => ?_) (fun hc => ?_)
  · replace hf := gif_t hf hc
    clear hc
    refine lv_iconst (v := (-1)) X.hx X.hb dX0_copy_14 (by decide) ?_
    exact r_ri X h hr hlk (Nat.le_of_ble_eq_true rfl) (Nat.le_of_ble_eq_true rfl) dX0_copy_15 hf
  · replace hf := gif_f hf hc
    clear hc
    refine lv_iload_n X.hx X.hb dX0_copy_7 rfl (lv_at hl 3 rfl) ?_
    refine r_cSI (As := [.int a3]) (rest := []) X h hf (fun res hres => wX0_isRow l Γ ad _ a3 res hres) (va_cwS 1 X.hts (lw_S q341 q342 q82 q343) rfl rfl rfl (by decide +kernel) ⟨Nat.le_of_ble_eq_true rfl, Nat.le_of_ble_eq_true rfl⟩) rfl ⟨hl.1, Nat.le_of_ble_eq_true rfl, Nat.le_of_ble_eq_true rfl, Nat.le_of_ble_eq_true rfl⟩ rfl dX0_copy_8 (fun x3 μ4 H locs hf h => ?_)
    refine lv_if_ne (tgt := 16) X.hx X.hb dX0_copy_11 (by decide) (fun hc => ?_) (fun hc => ?_)
    · replace hf := gif_f hf hc
      clear hc
      refine lv_iload X.hx X.hb dX0_copy_16 (lv_at hl 5 rfl) ?_
      refine lv_if_ge (tgt := 27) X.hx X.hb dX0_copy_18 (by decide) (fun hc => ?_) (fun hc => ?_)
      · replace hf := gif_t hf hc
        clear hc
        refine lv_aload_n X.hx X.hb dX0_copy_27 rfl (lv_at hl 0 rfl) ?_
        refine r_getP X h (ci := 0) (k := 5) (C := RX0) (T := TX0) (N := 36) rfl in_X0 (by decide) q146 rfl dX0_copy_28 hf (fun i5 hf => ?_)
        refine lv_iload_n X.hx X.hb dX0_copy_31 rfl (lv_at hl 1 rfl) ?_
        refine r_aald X h (t := 3) rfl rfl dX0_copy_32 hf (fun o6 hf => ?_)
        refine lv_iload_n X.hx X.hb dX0_copy_33 rfl (lv_at hl 2 rfl) ?_
        refine lv_aload_n X.hx X.hb dX0_copy_34 rfl (lv_at hl 0 rfl) ?_
        refine r_getP X h (ci := 0) (k := 5) (C := RX0) (T := TX0) (N := 36) rfl in_X0 (by decide) q146 rfl dX0_copy_35 hf (fun i7 hf => ?_)
        refine lv_iload_n X.hx X.hb dX0_copy_38 rfl (lv_at hl 3 rfl) ?_
        refine r_aald X h (t := 3) rfl rfl dX0_copy_39 hf (fun o8 hf => ?_)
        refine lv_iload X.hx X.hb dX0_copy_40 (lv_at hl 4 rfl) ?_
        refine lv_iload X.hx X.hb dX0_copy_42 (lv_at hl 5 rfl) ?_
        refine r_tcopy (q := o6) (q' := o8) (rest := []) X Y h ⟨hl.1, Nat.le_of_ble_eq_true rfl, Nat.le_of_ble_eq_true rfl, Nat.le_of_ble_eq_true rfl⟩ ⟨Nat.le_of_ble_eq_true rfl, Nat.le_of_ble_eq_true rfl⟩ ⟨0, 27, 48, 126, "java/lang/NullPointerException", rfl, by decide, by decide, by decide, q359, List.contains_iff_mem.mp (by decide +kernel), x_pre0⟩ ⟨1, 27, 48, 136, "java/lang/IndexOutOfBoundsException", rfl, by decide, by decide, by decide, q416, List.contains_iff_mem.mp (by decide +kernel), (x_preM (name := "java/lang/NullPointerException") (by decide) (by decide) (by decide) q359 (by decide +kernel) x_pre0)⟩ q417 dX0_copy_44 hf (fun hf v H locs h => ?_) (fun hf v H locs h => ?_) (fun μ9 H locs hf h => ?_)
        · refine lv_astore (lv' := [(6, .ref v), (0, .ref (ad b0)), (1, .int a1), (2, .int a2), (3, .int a3), (4, .int a4), (5, .int a5)]) X.hx X.hb dX0_copy_49 hl (by decide) rfl (fun ls hl => ?_)
          replace hl := lv_sub hl [1, 2, 3, 4, 5, 6] rfl
          have hl : lv_has ls 7 [(0, .ref (ad b0)), (1, .int a1), (2, .int a2), (3, .int a3), (4, .int a4), (5, .int a5)] := hl
          refine lv_aload_n X.hx X.hb dX0_copy_51 rfl (lv_at hl 0 rfl) ?_
          refine lv_iconst (v := 1) X.hx X.hb dX0_copy_52 (by decide) ?_
          refine r_cVI (As := [.int 1]) (rest := []) (C := RX0) (T := TX0) (N := 36) X h hf (fun res hres => wX0_found l Γ ad _ b0 1 res hres) rfl (cwV 1 X.hts (lw_V q347 q349 qs2 q82 q350) rfl rfl rfl (by decide +kernel) ⟨Nat.le_of_ble_eq_true rfl, Nat.le_of_ble_eq_true rfl⟩) rfl ⟨hl.1, Nat.le_of_ble_eq_true rfl, Nat.le_of_ble_eq_true rfl, Nat.le_of_ble_eq_true rfl⟩ rfl dX0_copy_53 (fun x10 μ11 H locs hf h => ?_)
          exact r_ri X h hr hlk (Nat.le_of_ble_eq_true rfl) (Nat.le_of_ble_eq_true rfl) dX0_copy_56 hf
        · refine lv_astore (lv' := [(6, .ref v), (0, .ref (ad b0)), (1, .int a1), (2, .int a2), (3, .int a3), (4, .int a4), (5, .int a5)]) X.hx X.hb dX0_copy_57 hl (by decide) rfl (fun ls hl => ?_)
          replace hl := lv_sub hl [1, 2, 3, 4, 5, 6] rfl
          have hl : lv_has ls 7 [(0, .ref (ad b0)), (1, .int a1), (2, .int a2), (3, .int a3), (4, .int a4), (5, .int a5)] := hl
          refine lv_aload_n X.hx X.hb dX0_copy_59 rfl (lv_at hl 0 rfl) ?_
          refine lv_iconst (v := 2) X.hx X.hb dX0_copy_60 (by decide) ?_
          refine r_cVI (As := [.int 2]) (rest := []) (C := RX0) (T := TX0) (N := 36) X h hf (fun res hres => wX0_found l Γ ad _ b0 2 res hres) rfl (cwV 1 X.hts (lw_V q347 q349 qs2 q82 q350) rfl rfl rfl (by decide +kernel) ⟨Nat.le_of_ble_eq_true rfl, Nat.le_of_ble_eq_true rfl⟩) rfl ⟨hl.1, Nat.le_of_ble_eq_true rfl, Nat.le_of_ble_eq_true rfl, Nat.le_of_ble_eq_true rfl⟩ rfl dX0_copy_61 (fun x12 μ13 H locs hf h => ?_)
          exact r_ri X h hr hlk (Nat.le_of_ble_eq_true rfl) (Nat.le_of_ble_eq_true rfl) dX0_copy_64 hf
        refine lv_iconst (v := 1) X.hx X.hb dX0_copy_47 (by decide) ?_
        exact r_ri X h hr hlk (Nat.le_of_ble_eq_true rfl) (Nat.le_of_ble_eq_true rfl) dX0_copy_48 hf
      · replace hf := gif_f hf hc
        clear hc
        refine lv_aload_n X.hx X.hb dX0_copy_21 rfl (lv_at hl 0 rfl) ?_
        refine lv_iconst (v := 5) X.hx X.hb dX0_copy_22 (by decide) ?_
        refine r_cVI (As := [.int 5]) (rest := []) (C := RX0) (T := TX0) (N := 36) X h hf (fun res hres => wX0_found l Γ ad _ b0 5 res hres) rfl (cwV 1 X.hts (lw_V q347 q349 qs2 q82 q350) rfl rfl rfl (by decide +kernel) ⟨Nat.le_of_ble_eq_true rfl, Nat.le_of_ble_eq_true rfl⟩) rfl ⟨hl.1, Nat.le_of_ble_eq_true rfl, Nat.le_of_ble_eq_true rfl, Nat.le_of_ble_eq_true rfl⟩ rfl dX0_copy_23 (fun x14 μ15 H locs hf h => ?_)
        exact r_ri X h hr hlk (Nat.le_of_ble_eq_true rfl) (Nat.le_of_ble_eq_true rfl) dX0_copy_26 hf
    · replace hf := gif_t hf hc
      clear hc
      refine lv_iconst (v := (-1)) X.hx X.hb dX0_copy_14 (by decide) ?_
      exact r_ri X h hr hlk (Nat.le_of_ble_eq_true rfl) (Nat.le_of_ble_eq_true rfl) dX0_copy_15 hf
/-! X3_is -/
def fX3_is (μ0 : gM) (b0 : Nat) (a1 : Int32) : gR := if a1 = 0 then (rZ 1 μ0) else (rZ 0 μ0)
set_option maxHeartbeats 4000000 in
theorem wX3_is (l : Launch) (Γ : gG) (ad : Nat → Nat) (μ0 : gM) (b0 : Nat) (a1 : Int32) (r : Option Value × gM) (hf : fX3_is μ0 b0 a1 = some r) : gMt0 l Γ yX3_is (ws_ yX3_is cX3_is 2 (some .boolean)) ({ frames := 0, cells := 0, slots := 0, locals := 0 } : Room) 0 0 ad μ0 [.ref (ad b0), .int a1] r := by
  intro sz
  refine g_start (maxL := 2) (ret := (some .boolean)) (by decide) rfl g_all (Nat.le_of_ble_eq_true rfl) ?_
  intro p e s m below meth c ls hr hlk hnm X h hl
  generalize gA ad μ0 sz = A at X h ⊢
  generalize ([.ref (ad b0), .int a1] : List Value).toArray = args at X ⊢
  have X : gX p m c cX3_is 2 s args "SandPiano$Key" Γ A := X
  have hl : lv_has ls 2 [(0, .ref (ad b0)), (1, .int a1)] := hl
  show W p l e ({ frames := 0, cells := 0, slots := 0, locals := 0 } : Room) s m args below meth c s.heap [] 0 0 (MQ below (gQ0 Γ ad μ0.1 r A) args s 0 0 A) (F0 m 0 ls [])
  unfold fX3_is at hf
  refine lv_iload_n X.hx X.hb dX3_is_0 rfl (lv_at hl 1 rfl) ?_
  refine lv_if_ne (tgt := 8) X.hx X.hb dX3_is_1 (by decide) (fun hc => ?_) (fun hc => ?_)
  · replace hf := gif_f hf hc
    clear hc
    refine lv_iconst (v := 0) X.hx X.hb dX3_is_8 (by decide) ?_
    exact r_rz X h hr hlk (Nat.le_of_ble_eq_true rfl) (Nat.le_of_ble_eq_true rfl) dX3_is_9 hf
  · replace hf := gif_t hf hc
    clear hc
    refine lv_iconst (v := 1) X.hx X.hb dX3_is_4 (by decide) ?_
    refine lv_goto (tgt := 9) X.hx X.hb dX3_is_5 (by decide) ?_
    exact r_rz X h hr hlk (Nat.le_of_ble_eq_true rfl) (Nat.le_of_ble_eq_true rfl) dX3_is_9 hf
/-! X4_is -/
def fX4_is (μ0 : gM) (b0 : Nat) (a1 : Int32) : gR := gjn (fun  (μ1 : gM) => rZ 1 μ1) fun j2 => if a1 = 1 then (j2 μ0) else (gik μ0 b0 <| cI (fX3_is μ0 b0 a1) fun x3 μ4 => if x3 = 0 then (rZ 0 μ4) else (j2 μ4))
set_option maxHeartbeats 4000000 in
theorem wX4_is (l : Launch) (Γ : gG) (ad : Nat → Nat) (μ0 : gM) (b0 : Nat) (a1 : Int32) (r : Option Value × gM) (hf : fX4_is μ0 b0 a1 = some r) : gMt0 l Γ yX4_is (ws_ yX4_is cX4_is 2 (some .boolean)) ({ frames := 1, cells := 0, slots := 0, locals := 21 } : Room) 0 0 ad μ0 [.ref (ad b0), .int a1] r := by
  intro sz
  refine g_start (maxL := 2) (ret := (some .boolean)) (by decide) rfl g_all (Nat.le_of_ble_eq_true rfl) ?_
  intro p e s m below meth c ls hr hlk hnm X h hl
  generalize gA ad μ0 sz = A at X h ⊢
  generalize ([.ref (ad b0), .int a1] : List Value).toArray = args at X ⊢
  have X : gX p m c cX4_is 2 s args "SandPiano$Bass" Γ A := X
  have hl : lv_has ls 2 [(0, .ref (ad b0)), (1, .int a1)] := hl
  show W p l e ({ frames := 1, cells := 0, slots := 0, locals := 21 } : Room) s m args below meth c s.heap [] 0 0 (MQ below (gQ0 Γ ad μ0.1 r A) args s 0 0 A) (F0 m 0 ls [])
  unfold fX4_is at hf
  refine lv_iload_n X.hx X.hb dX4_is_0 rfl (lv_at hl 1 rfl) ?_
  refine lv_iconst (v := 1) X.hx X.hb dX4_is_1 (by decide) ?_
  refine r_jn hf (fun j2 ej2 hf => ?_)
  have hj2 : ∀  (μ1 : gM) (H : Heap) (locs : List Loc) (ls : Array Slot), j2  μ1 = some r → gWd Γ A μ0.1 ad μ1 s.heap H locs → lv_has ls 2 [] → W p l e ({ frames := 1, cells := 0, slots := 0, locals := 21 } : Room) s m args below meth c H locs 0 0 (MQ below (gQ0 Γ ad μ0.1 r A) args s 0 0 A) (F0 m 13 ls []) := by
    intro μ1 H locs ls hf h hl
    rw [ej2] at hf
    refine lv_iconst (v := 1) X.hx X.hb dX4_is_13 (by decide) ?_
    refine lv_goto (tgt := 18) X.hx X.hb dX4_is_14 (by decide) ?_
    exact r_rz X h hr hlk (Nat.le_of_ble_eq_true rfl) (Nat.le_of_ble_eq_true rfl) dX4_is_18 hf
  clear ej2
  refine lv_icmp_eq (tgt := 13) X.hx X.hb dX4_is_2 (by decide) (fun hc => ?_) (fun hc => ?_)
  · replace hf := gif_t hf hc
    clear hc
    exact hj2 _ _ _ _ hf h (lv_sub hl [] rfl)
  · replace hf := gif_f hf hc
    clear hc
    refine lv_aload_n X.hx X.hb dX4_is_5 rfl (lv_at hl 0 rfl) ?_
    refine lv_iload_n X.hx X.hb dX4_is_6 rfl (lv_at hl 1 rfl) ?_
    refine r_cSU (As := [.int a1]) (rest := []) X h hf (fun res hres => wX3_is l Γ ad _ b0 a1 res hres) (va_cwSU 1 X.hts (lw_SU q1009 q1005 q498 q1003 q95 q1026) rfl rfl rfl (by decide +kernel) ⟨Nat.le_of_ble_eq_true rfl, Nat.le_of_ble_eq_true rfl⟩) rfl ⟨hl.1, Nat.le_of_ble_eq_true rfl, Nat.le_of_ble_eq_true rfl, Nat.le_of_ble_eq_true rfl⟩ rfl dX4_is_7 (fun x3 μ4 H locs hf h => ?_)
    refine lv_if_eq (tgt := 17) X.hx X.hb dX4_is_10 (by decide) (fun hc => ?_) (fun hc => ?_)
    · replace hf := gif_t hf hc
      clear hc
      refine lv_iconst (v := 0) X.hx X.hb dX4_is_17 (by decide) ?_
      exact r_rz X h hr hlk (Nat.le_of_ble_eq_true rfl) (Nat.le_of_ble_eq_true rfl) dX4_is_18 hf
    · replace hf := gif_f hf hc
      clear hc
      exact hj2 _ _ _ _ hf h (lv_sub hl [] rfl)
/-! X6_is -/
def fX6_is (μ0 : gM) (b0 : Nat) (a1 : Int32) : gR := gjn (fun  (μ1 : gM) => rZ 1 μ1) fun j2 => if a1 = 3 then (j2 μ0) else (gik μ0 b0 <| cI (fX3_is μ0 b0 a1) fun x3 μ4 => if x3 = 0 then (rZ 0 μ4) else (j2 μ4))
set_option maxHeartbeats 4000000 in
theorem wX6_is (l : Launch) (Γ : gG) (ad : Nat → Nat) (μ0 : gM) (b0 : Nat) (a1 : Int32) (r : Option Value × gM) (hf : fX6_is μ0 b0 a1 = some r) : gMt0 l Γ yX6_is (ws_ yX6_is cX6_is 2 (some .boolean)) ({ frames := 1, cells := 0, slots := 0, locals := 21 } : Room) 0 0 ad μ0 [.ref (ad b0), .int a1] r := by
  intro sz
  refine g_start (maxL := 2) (ret := (some .boolean)) (by decide) rfl g_all (Nat.le_of_ble_eq_true rfl) ?_
  intro p e s m below meth c ls hr hlk hnm X h hl
  generalize gA ad μ0 sz = A at X h ⊢
  generalize ([.ref (ad b0), .int a1] : List Value).toArray = args at X ⊢
  have X : gX p m c cX6_is 2 s args "SandPiano$Crab" Γ A := X
  have hl : lv_has ls 2 [(0, .ref (ad b0)), (1, .int a1)] := hl
  show W p l e ({ frames := 1, cells := 0, slots := 0, locals := 21 } : Room) s m args below meth c s.heap [] 0 0 (MQ below (gQ0 Γ ad μ0.1 r A) args s 0 0 A) (F0 m 0 ls [])
  unfold fX6_is at hf
  refine lv_iload_n X.hx X.hb dX6_is_0 rfl (lv_at hl 1 rfl) ?_
  refine lv_iconst (v := 3) X.hx X.hb dX6_is_1 (by decide) ?_
  refine r_jn hf (fun j2 ej2 hf => ?_)
  have hj2 : ∀  (μ1 : gM) (H : Heap) (locs : List Loc) (ls : Array Slot), j2  μ1 = some r → gWd Γ A μ0.1 ad μ1 s.heap H locs → lv_has ls 2 [] → W p l e ({ frames := 1, cells := 0, slots := 0, locals := 21 } : Room) s m args below meth c H locs 0 0 (MQ below (gQ0 Γ ad μ0.1 r A) args s 0 0 A) (F0 m 13 ls []) := by
    intro μ1 H locs ls hf h hl
    rw [ej2] at hf
    refine lv_iconst (v := 1) X.hx X.hb dX6_is_13 (by decide) ?_
    refine lv_goto (tgt := 18) X.hx X.hb dX6_is_14 (by decide) ?_
    exact r_rz X h hr hlk (Nat.le_of_ble_eq_true rfl) (Nat.le_of_ble_eq_true rfl) dX6_is_18 hf
  clear ej2
  refine lv_icmp_eq (tgt := 13) X.hx X.hb dX6_is_2 (by decide) (fun hc => ?_) (fun hc => ?_)
  · replace hf := gif_t hf hc
    clear hc
    exact hj2 _ _ _ _ hf h (lv_sub hl [] rfl)
  · replace hf := gif_f hf hc
    clear hc
    refine lv_aload_n X.hx X.hb dX6_is_5 rfl (lv_at hl 0 rfl) ?_
    refine lv_iload_n X.hx X.hb dX6_is_6 rfl (lv_at hl 1 rfl) ?_
    refine r_cSU (As := [.int a1]) (rest := []) X h hf (fun res hres => wX3_is l Γ ad _ b0 a1 res hres) (va_cwSU 1 X.hts (lw_SU q1013 q1005 q518 q1003 q95 q1026) rfl rfl rfl (by decide +kernel) ⟨Nat.le_of_ble_eq_true rfl, Nat.le_of_ble_eq_true rfl⟩) rfl ⟨hl.1, Nat.le_of_ble_eq_true rfl, Nat.le_of_ble_eq_true rfl, Nat.le_of_ble_eq_true rfl⟩ rfl dX6_is_7 (fun x3 μ4 H locs hf h => ?_)
    refine lv_if_eq (tgt := 17) X.hx X.hb dX6_is_10 (by decide) (fun hc => ?_) (fun hc => ?_)
    · replace hf := gif_t hf hc
      clear hc
      refine lv_iconst (v := 0) X.hx X.hb dX6_is_17 (by decide) ?_
      exact r_rz X h hr hlk (Nat.le_of_ble_eq_true rfl) (Nat.le_of_ble_eq_true rfl) dX6_is_18 hf
    · replace hf := gif_f hf hc
      clear hc
      exact hj2 _ _ _ _ hf h (lv_sub hl [] rfl)
/-! X7_is -/
def fX7_is (μ0 : gM) (b0 : Nat) (a1 : Int32) : gR := gjn (fun  (μ1 : gM) => rZ 1 μ1) fun j2 => if a1 = 4 then (j2 μ0) else (gik μ0 b0 <| cI (fX4_is μ0 b0 a1) fun x3 μ4 => if x3 = 0 then (rZ 0 μ4) else (j2 μ4))
set_option maxHeartbeats 4000000 in
theorem wX7_is (l : Launch) (Γ : gG) (ad : Nat → Nat) (μ0 : gM) (b0 : Nat) (a1 : Int32) (r : Option Value × gM) (hf : fX7_is μ0 b0 a1 = some r) : gMt0 l Γ yX7_is (ws_ yX7_is cX7_is 2 (some .boolean)) ({ frames := 2, cells := 0, slots := 0, locals := 42 } : Room) 0 0 ad μ0 [.ref (ad b0), .int a1] r := by
  intro sz
  refine g_start (maxL := 2) (ret := (some .boolean)) (by decide) rfl g_all (Nat.le_of_ble_eq_true rfl) ?_
  intro p e s m below meth c ls hr hlk hnm X h hl
  generalize gA ad μ0 sz = A at X h ⊢
  generalize ([.ref (ad b0), .int a1] : List Value).toArray = args at X ⊢
  have X : gX p m c cX7_is 2 s args "SandPiano$Drum" Γ A := X
  have hl : lv_has ls 2 [(0, .ref (ad b0)), (1, .int a1)] := hl
  show W p l e ({ frames := 2, cells := 0, slots := 0, locals := 42 } : Room) s m args below meth c s.heap [] 0 0 (MQ below (gQ0 Γ ad μ0.1 r A) args s 0 0 A) (F0 m 0 ls [])
  unfold fX7_is at hf
  refine lv_iload_n X.hx X.hb dX7_is_0 rfl (lv_at hl 1 rfl) ?_
  refine lv_iconst (v := 4) X.hx X.hb dX7_is_1 (by decide) ?_
  refine r_jn hf (fun j2 ej2 hf => ?_)
  have hj2 : ∀  (μ1 : gM) (H : Heap) (locs : List Loc) (ls : Array Slot), j2  μ1 = some r → gWd Γ A μ0.1 ad μ1 s.heap H locs → lv_has ls 2 [] → W p l e ({ frames := 2, cells := 0, slots := 0, locals := 42 } : Room) s m args below meth c H locs 0 0 (MQ below (gQ0 Γ ad μ0.1 r A) args s 0 0 A) (F0 m 13 ls []) := by
    intro μ1 H locs ls hf h hl
    rw [ej2] at hf
    refine lv_iconst (v := 1) X.hx X.hb dX7_is_13 (by decide) ?_
    refine lv_goto (tgt := 18) X.hx X.hb dX7_is_14 (by decide) ?_
    exact r_rz X h hr hlk (Nat.le_of_ble_eq_true rfl) (Nat.le_of_ble_eq_true rfl) dX7_is_18 hf
  clear ej2
  refine lv_icmp_eq (tgt := 13) X.hx X.hb dX7_is_2 (by decide) (fun hc => ?_) (fun hc => ?_)
  · replace hf := gif_t hf hc
    clear hc
    exact hj2 _ _ _ _ hf h (lv_sub hl [] rfl)
  · replace hf := gif_f hf hc
    clear hc
    refine lv_aload_n X.hx X.hb dX7_is_5 rfl (lv_at hl 0 rfl) ?_
    refine lv_iload_n X.hx X.hb dX7_is_6 rfl (lv_at hl 1 rfl) ?_
    refine r_cSU (As := [.int a1]) (rest := []) X h hf (fun res hres => wX4_is l Γ ad _ b0 a1 res hres) (va_cwSU 1 X.hts (lw_SU q1017 q1551 q528 q1007 q96 q1008) rfl rfl rfl (by decide +kernel) ⟨Nat.le_of_ble_eq_true rfl, Nat.le_of_ble_eq_true rfl⟩) rfl ⟨hl.1, Nat.le_of_ble_eq_true rfl, Nat.le_of_ble_eq_true rfl, Nat.le_of_ble_eq_true rfl⟩ rfl dX7_is_7 (fun x3 μ4 H locs hf h => ?_)
    refine lv_if_eq (tgt := 17) X.hx X.hb dX7_is_10 (by decide) (fun hc => ?_) (fun hc => ?_)
    · replace hf := gif_t hf hc
      clear hc
      refine lv_iconst (v := 0) X.hx X.hb dX7_is_17 (by decide) ?_
      exact r_rz X h hr hlk (Nat.le_of_ble_eq_true rfl) (Nat.le_of_ble_eq_true rfl) dX7_is_18 hf
    · replace hf := gif_f hf hc
      clear hc
      exact hj2 _ _ _ _ hf h (lv_sub hl [] rfl)
/-! X5_is -/
def fX5_is (μ0 : gM) (b0 : Nat) (a1 : Int32) : gR := gjn (fun  (μ1 : gM) => rZ 1 μ1) fun j2 => if a1 = 2 then (j2 μ0) else (gik μ0 b0 <| cI (fX3_is μ0 b0 a1) fun x3 μ4 => if x3 = 0 then (rZ 0 μ4) else (j2 μ4))
set_option maxHeartbeats 4000000 in
theorem wX5_is (l : Launch) (Γ : gG) (ad : Nat → Nat) (μ0 : gM) (b0 : Nat) (a1 : Int32) (r : Option Value × gM) (hf : fX5_is μ0 b0 a1 = some r) : gMt0 l Γ yX5_is (ws_ yX5_is cX5_is 2 (some .boolean)) ({ frames := 1, cells := 0, slots := 0, locals := 21 } : Room) 0 0 ad μ0 [.ref (ad b0), .int a1] r := by
  intro sz
  refine g_start (maxL := 2) (ret := (some .boolean)) (by decide) rfl g_all (Nat.le_of_ble_eq_true rfl) ?_
  intro p e s m below meth c ls hr hlk hnm X h hl
  generalize gA ad μ0 sz = A at X h ⊢
  generalize ([.ref (ad b0), .int a1] : List Value).toArray = args at X ⊢
  have X : gX p m c cX5_is 2 s args "SandPiano$Shell" Γ A := X
  have hl : lv_has ls 2 [(0, .ref (ad b0)), (1, .int a1)] := hl
  show W p l e ({ frames := 1, cells := 0, slots := 0, locals := 21 } : Room) s m args below meth c s.heap [] 0 0 (MQ below (gQ0 Γ ad μ0.1 r A) args s 0 0 A) (F0 m 0 ls [])
  unfold fX5_is at hf
  refine lv_iload_n X.hx X.hb dX5_is_0 rfl (lv_at hl 1 rfl) ?_
  refine lv_iconst (v := 2) X.hx X.hb dX5_is_1 (by decide) ?_
  refine r_jn hf (fun j2 ej2 hf => ?_)
  have hj2 : ∀  (μ1 : gM) (H : Heap) (locs : List Loc) (ls : Array Slot), j2  μ1 = some r → gWd Γ A μ0.1 ad μ1 s.heap H locs → lv_has ls 2 [] → W p l e ({ frames := 1, cells := 0, slots := 0, locals := 21 } : Room) s m args below meth c H locs 0 0 (MQ below (gQ0 Γ ad μ0.1 r A) args s 0 0 A) (F0 m 13 ls []) := by
    intro μ1 H locs ls hf h hl
    rw [ej2] at hf
    refine lv_iconst (v := 1) X.hx X.hb dX5_is_13 (by decide) ?_
    refine lv_goto (tgt := 18) X.hx X.hb dX5_is_14 (by decide) ?_
    exact r_rz X h hr hlk (Nat.le_of_ble_eq_true rfl) (Nat.le_of_ble_eq_true rfl) dX5_is_18 hf
  clear ej2
  refine lv_icmp_eq (tgt := 13) X.hx X.hb dX5_is_2 (by decide) (fun hc => ?_) (fun hc => ?_)
  · replace hf := gif_t hf hc
    clear hc
    exact hj2 _ _ _ _ hf h (lv_sub hl [] rfl)
  · replace hf := gif_f hf hc
    clear hc
    refine lv_aload_n X.hx X.hb dX5_is_5 rfl (lv_at hl 0 rfl) ?_
    refine lv_iload_n X.hx X.hb dX5_is_6 rfl (lv_at hl 1 rfl) ?_
    refine r_cSU (As := [.int a1]) (rest := []) X h hf (fun res hres => wX3_is l Γ ad _ b0 a1 res hres) (va_cwSU 1 X.hts (lw_SU q1024 q1005 q508 q1003 q95 q1026) rfl rfl rfl (by decide +kernel) ⟨Nat.le_of_ble_eq_true rfl, Nat.le_of_ble_eq_true rfl⟩) rfl ⟨hl.1, Nat.le_of_ble_eq_true rfl, Nat.le_of_ble_eq_true rfl, Nat.le_of_ble_eq_true rfl⟩ rfl dX5_is_7 (fun x3 μ4 H locs hf h => ?_)
    refine lv_if_eq (tgt := 17) X.hx X.hb dX5_is_10 (by decide) (fun hc => ?_) (fun hc => ?_)
    · replace hf := gif_t hf hc
      clear hc
      refine lv_iconst (v := 0) X.hx X.hb dX5_is_17 (by decide) ?_
      exact r_rz X h hr hlk (Nat.le_of_ble_eq_true rfl) (Nat.le_of_ble_eq_true rfl) dX5_is_18 hf
    · replace hf := gif_f hf hc
      clear hc
      exact hj2 _ _ _ _ hf h (lv_sub hl [] rfl)
/-! X8_is -/
def fX8_is (μ0 : gM) (b0 : Nat) (a1 : Int32) : gR := gjn (fun  (μ1 : gM) => rZ 1 μ1) fun j2 => if a1 = 5 then (j2 μ0) else (gik μ0 b0 <| cI (fX5_is μ0 b0 a1) fun x3 μ4 => if x3 = 0 then (rZ 0 μ4) else (j2 μ4))
set_option maxHeartbeats 4000000 in
theorem wX8_is (l : Launch) (Γ : gG) (ad : Nat → Nat) (μ0 : gM) (b0 : Nat) (a1 : Int32) (r : Option Value × gM) (hf : fX8_is μ0 b0 a1 = some r) : gMt0 l Γ yX8_is (ws_ yX8_is cX8_is 2 (some .boolean)) ({ frames := 2, cells := 0, slots := 0, locals := 42 } : Room) 0 0 ad μ0 [.ref (ad b0), .int a1] r := by
  intro sz
  refine g_start (maxL := 2) (ret := (some .boolean)) (by decide) rfl g_all (Nat.le_of_ble_eq_true rfl) ?_
  intro p e s m below meth c ls hr hlk hnm X h hl
  generalize gA ad μ0 sz = A at X h ⊢
  generalize ([.ref (ad b0), .int a1] : List Value).toArray = args at X ⊢
  have X : gX p m c cX8_is 2 s args "SandPiano$Ring" Γ A := X
  have hl : lv_has ls 2 [(0, .ref (ad b0)), (1, .int a1)] := hl
  show W p l e ({ frames := 2, cells := 0, slots := 0, locals := 42 } : Room) s m args below meth c s.heap [] 0 0 (MQ below (gQ0 Γ ad μ0.1 r A) args s 0 0 A) (F0 m 0 ls [])
  unfold fX8_is at hf
  refine lv_iload_n X.hx X.hb dX8_is_0 rfl (lv_at hl 1 rfl) ?_
  refine lv_iconst (v := 5) X.hx X.hb dX8_is_1 (by decide) ?_
  refine r_jn hf (fun j2 ej2 hf => ?_)
  have hj2 : ∀  (μ1 : gM) (H : Heap) (locs : List Loc) (ls : Array Slot), j2  μ1 = some r → gWd Γ A μ0.1 ad μ1 s.heap H locs → lv_has ls 2 [] → W p l e ({ frames := 2, cells := 0, slots := 0, locals := 42 } : Room) s m args below meth c H locs 0 0 (MQ below (gQ0 Γ ad μ0.1 r A) args s 0 0 A) (F0 m 13 ls []) := by
    intro μ1 H locs ls hf h hl
    rw [ej2] at hf
    refine lv_iconst (v := 1) X.hx X.hb dX8_is_13 (by decide) ?_
    refine lv_goto (tgt := 18) X.hx X.hb dX8_is_14 (by decide) ?_
    exact r_rz X h hr hlk (Nat.le_of_ble_eq_true rfl) (Nat.le_of_ble_eq_true rfl) dX8_is_18 hf
  clear ej2
  refine lv_icmp_eq (tgt := 13) X.hx X.hb dX8_is_2 (by decide) (fun hc => ?_) (fun hc => ?_)
  · replace hf := gif_t hf hc
    clear hc
    exact hj2 _ _ _ _ hf h (lv_sub hl [] rfl)
  · replace hf := gif_f hf hc
    clear hc
    refine lv_aload_n X.hx X.hb dX8_is_5 rfl (lv_at hl 0 rfl) ?_
    refine lv_iload_n X.hx X.hb dX8_is_6 rfl (lv_at hl 1 rfl) ?_
    refine r_cSU (As := [.int a1]) (rest := []) X h hf (fun res hres => wX5_is l Γ ad _ b0 a1 res hres) (va_cwSU 1 X.hts (lw_SU q1021 q1552 q538 q1022 q97 q1023) rfl rfl rfl (by decide +kernel) ⟨Nat.le_of_ble_eq_true rfl, Nat.le_of_ble_eq_true rfl⟩) rfl ⟨hl.1, Nat.le_of_ble_eq_true rfl, Nat.le_of_ble_eq_true rfl, Nat.le_of_ble_eq_true rfl⟩ rfl dX8_is_7 (fun x3 μ4 H locs hf h => ?_)
    refine lv_if_eq (tgt := 17) X.hx X.hb dX8_is_10 (by decide) (fun hc => ?_) (fun hc => ?_)
    · replace hf := gif_t hf hc
      clear hc
      refine lv_iconst (v := 0) X.hx X.hb dX8_is_17 (by decide) ?_
      exact r_rz X h hr hlk (Nat.le_of_ble_eq_true rfl) (Nat.le_of_ble_eq_true rfl) dX8_is_18 hf
    · replace hf := gif_f hf hc
      clear hc
      exact hj2 _ _ _ _ hf h (lv_sub hl [] rfl)
/-! X0_keysOf -/
def vX3_is (μ : gM) (i : Nat) (a1 : Int32) : gR := gkc μ i fun c => if c = 3 then fX3_is μ i a1 else if c = 4 then fX4_is μ i a1 else if c = 5 then fX5_is μ i a1 else if c = 6 then fX6_is μ i a1 else if c = 7 then fX7_is μ i a1 else if c = 8 then fX8_is μ i a1 else none
set_option maxHeartbeats 4000000 in
theorem wvX3_is {p : Program} {l : Launch} {e : Env} {R : Room} {s : State} {m : MethodId} {args : Array Value} {below : List Frame} {meth : Method} {c : Code} {H : Heap} {locs : List Loc} {cells slots : Nat} {Q : State → Prop} {cc : ByteArray} {pc nL : Nat} {ls : Array Slot} {rest st0 : List Value} {own : String} {Γ : gG} {A : Nat → Prop} {nz : Nat} {ad : Nat → Nat} {μ : gM} {r : Option Value × gM} {i index : Nat} {a1 : Int32} {kt : Int32 → gM → gR} (X : gX p m c cc nL s args own Γ A) (h : gWd Γ A nz ad μ s.heap H locs) (hl : Cond.methodLink own index ⟨"SandPiano$Key", "is", "(I)Z"⟩ ∈ lw_all) (hF : 3 ≤ R.frames) (hL : 63 ≤ R.locals) (hg : gSt m ls nL R cells slots 0 0 rest) (hst : st0 = ([.int a1] : List Value).reverse ++ .ref (ad i) :: rest) (d : decode cc pc = .ok (.invokevirtual index, 3)) (hf : cI (vX3_is μ i a1) kt = some r)
    (kk : ∀ (x : Int32) (μ1 : gM) (H1 : Heap) (locs1 : List Loc), kt x μ1 = some r → gWd Γ A nz ad μ1 s.heap H1 locs1 → W p l e R s m args below meth c H1 locs1 cells slots Q (F0 m (pc + 3) ls (.int x :: rest))) : W p l e R s m args below meth c H locs cells slots Q (F0 m pc ls st0) := by
  obtain ⟨x, μ1, ho, hf⟩ := cI_some hf
  obtain ⟨ci, fs, he, ho⟩ := gkc_some ho
  by_cases hc3 : ci = 3
  · subst hc3
    rw [if_pos rfl] at ho
    exact r_back0 X h (g_runU (As := [.int a1]) X h he (wX3_is l Γ ad μ i a1 _ ho _) (T := TX3) rfl (va_cwU (owner := "SandPiano$Key") (x := ⟨"SandPiano$Key", "is", "(I)Z"⟩) 1 X.hts (lw_U hl q1005 q1004 q1003 q95 q1026) rfl rfl rfl rfl (by decide +kernel) ⟨Nat.le_trans (Nat.le_of_ble_eq_true rfl) hF, Nat.le_trans (Nat.le_of_ble_eq_true rfl) hL⟩) rfl hg hst d) (fun H1 locs1 h1 => kk x μ1 H1 locs1 hf h1)
  rw [if_neg hc3] at ho
  by_cases hc4 : ci = 4
  · subst hc4
    rw [if_pos rfl] at ho
    exact r_back0 X h (g_runU (As := [.int a1]) X h he (wX4_is l Γ ad μ i a1 _ ho _) (T := TX4) rfl (va_cwO (owner := "SandPiano$Key") (x := ⟨"SandPiano$Key", "is", "(I)Z"⟩) 1 X.hts (lw_O hl q1005 q1003 q1006 q1007 q96 q1008) rfl rfl rfl q1026 (by decide +kernel) ⟨Nat.le_trans (Nat.le_of_ble_eq_true rfl) hF, Nat.le_trans (Nat.le_of_ble_eq_true rfl) hL⟩) rfl hg hst d) (fun H1 locs1 h1 => kk x μ1 H1 locs1 hf h1)
  rw [if_neg hc4] at ho
  by_cases hc5 : ci = 5
  · subst hc5
    rw [if_pos rfl] at ho
    exact r_back0 X h (g_runU (As := [.int a1]) X h he (wX5_is l Γ ad μ i a1 _ ho _) (T := TX5) rfl (va_cwO (owner := "SandPiano$Key") (x := ⟨"SandPiano$Key", "is", "(I)Z"⟩) 1 X.hts (lw_O hl q1005 q1003 q1025 q1022 q97 q1023) rfl rfl rfl q1026 (by decide +kernel) ⟨Nat.le_trans (Nat.le_of_ble_eq_true rfl) hF, Nat.le_trans (Nat.le_of_ble_eq_true rfl) hL⟩) rfl hg hst d) (fun H1 locs1 h1 => kk x μ1 H1 locs1 hf h1)
  rw [if_neg hc5] at ho
  by_cases hc6 : ci = 6
  · subst hc6
    rw [if_pos rfl] at ho
    exact r_back0 X h (g_runU (As := [.int a1]) X h he (wX6_is l Γ ad μ i a1 _ ho _) (T := TX6) rfl (va_cwO (owner := "SandPiano$Key") (x := ⟨"SandPiano$Key", "is", "(I)Z"⟩) 1 X.hts (lw_O hl q1005 q1003 q1010 q1011 q98 q1012) rfl rfl rfl q1026 (by decide +kernel) ⟨Nat.le_trans (Nat.le_of_ble_eq_true rfl) hF, Nat.le_trans (Nat.le_of_ble_eq_true rfl) hL⟩) rfl hg hst d) (fun H1 locs1 h1 => kk x μ1 H1 locs1 hf h1)
  rw [if_neg hc6] at ho
  by_cases hc7 : ci = 7
  · subst hc7
    rw [if_pos rfl] at ho
    exact r_back0 X h (g_runU (As := [.int a1]) X h he (wX7_is l Γ ad μ i a1 _ ho _) (T := TX7) rfl (va_cwO (owner := "SandPiano$Key") (x := ⟨"SandPiano$Key", "is", "(I)Z"⟩) 1 X.hts (lw_O hl q1005 q1003 q1014 q1015 q99 q1016) rfl rfl rfl q1026 (by decide +kernel) ⟨Nat.le_trans (Nat.le_of_ble_eq_true rfl) hF, Nat.le_trans (Nat.le_of_ble_eq_true rfl) hL⟩) rfl hg hst d) (fun H1 locs1 h1 => kk x μ1 H1 locs1 hf h1)
  rw [if_neg hc7] at ho
  by_cases hc8 : ci = 8
  · subst hc8
    rw [if_pos rfl] at ho
    exact r_back0 X h (g_runU (As := [.int a1]) X h he (wX8_is l Γ ad μ i a1 _ ho _) (T := TX8) rfl (va_cwO (owner := "SandPiano$Key") (x := ⟨"SandPiano$Key", "is", "(I)Z"⟩) 1 X.hts (lw_O hl q1005 q1003 q1018 q1019 q100 q1020) rfl rfl rfl q1026 (by decide +kernel) ⟨Nat.le_trans (Nat.le_of_ble_eq_true rfl) hF, Nat.le_trans (Nat.le_of_ble_eq_true rfl) hL⟩) rfl hg hst d) (fun H1 locs1 h1 => kk x μ1 H1 locs1 hf h1)
  rw [if_neg hc8] at ho
  cases ho
def fX0_keysOf_L4 (b0 : Nat) (a1 : Int32) : Nat → Int32 → Int32 → gM → gR
  | 0, _, _, _ => none
  | n4 + 1, x1, x2, μ3 => gI (gfld μ3 b0 0 7) fun x5 => if x5 ≤ x2 then (some (some (.int x1), μ3)) else (gP (gfld μ3 b0 0 9) fun i6 => gaQ μ3 5 i6 x2 fun o7 => gnn o7 fun i8 => cI (vX3_is μ3 i8 a1) fun x9 μ10 => gjn (fun (x11 : Int32) (μ12 : gM) => gnm ((x1 + x11)) fun x14 => gnm (x2 + 1) fun x15 => fX0_keysOf_L4 b0 a1 n4 x14 x15 μ12) fun j13 => if x9 = 0 then (j13 0 μ10) else (j13 1 μ10))
set_option maxHeartbeats 4000000 in
theorem wX0_keysOf_L4 {p : Program} {e : Env} {s : State} {m : MethodId} {args : Array Value} {below : List Frame} {meth : Method} {c : Code} {Γ : gG} {A : Nat → Prop} {nz : Nat} {ad : Nat → Nat} {r : Option Value × gM} (l : Launch) (b0 : Nat) (a1 : Int32) (X : gX p m c cX0_keysOf 4 s args "SandPiano" Γ A) (hr : meth.sig.returnType = (some .int)) (hlk : meth.locks = false) : ∀ (n4 : Nat) (x1 : Int32) (x2 : Int32) (μ3 : gM) (H : Heap) (locs : List Loc) (ls : Array Slot), fX0_keysOf_L4 b0 a1 n4 x1 x2 μ3 = some r → gWd Γ A nz ad μ3 s.heap H locs → lv_has ls 4 [(0, .ref (ad b0)), (1, .int a1), (2, .int x1), (3, .int x2)] → W p l e ({ frames := 3, cells := 0, slots := 0, locals := 63 } : Room) s m args below meth c H locs 0 0 (MQ below (gQ0 Γ ad nz r A) args s 0 0 A) (F0 m 4 ls []) := by
  intro n4
  induction n4 with
  | zero =>
    intro x1 x2 μ3 H locs ls hf h hl
    have hf : (none : gR) = some r := hf
    cases hf
  | succ n4 ih =>
    intro x1 x2 μ3 H locs ls hf h hl
    rw [fX0_keysOf_L4] at hf
    refine lv_iload_n X.hx X.hb dX0_keysOf_4 rfl (lv_at hl 3 rfl) ?_
    refine lv_aload_n X.hx X.hb dX0_keysOf_5 rfl (lv_at hl 0 rfl) ?_
    refine r_getI X h (ci := 0) (k := 7) (C := RX0) (T := TX0) (N := 36) rfl in_X0 (by decide) q149 rfl dX0_keysOf_6 hf (fun x5 hf => ?_)
    refine lv_icmp_ge (tgt := 39) X.hx X.hb dX0_keysOf_9 (by decide) (fun hc => ?_) (fun hc => ?_)
    · replace hf := gif_t hf hc
      clear hc
      refine lv_iload_n X.hx X.hb dX0_keysOf_39 rfl (lv_at hl 2 rfl) ?_
      exact r_ri X h hr hlk (Nat.le_of_ble_eq_true rfl) (Nat.le_of_ble_eq_true rfl) dX0_keysOf_40 hf
    · replace hf := gif_f hf hc
      clear hc
      refine lv_iload_n X.hx X.hb dX0_keysOf_12 rfl (lv_at hl 2 rfl) ?_
      refine lv_aload_n X.hx X.hb dX0_keysOf_13 rfl (lv_at hl 0 rfl) ?_
      refine r_getP X h (ci := 0) (k := 9) (C := RX0) (T := TX0) (N := 36) rfl in_X0 (by decide) q151 rfl dX0_keysOf_14 hf (fun i6 hf => ?_)
      refine lv_iload_n X.hx X.hb dX0_keysOf_17 rfl (lv_at hl 3 rfl) ?_
      refine r_aald X h (t := 5) rfl rfl dX0_keysOf_18 hf (fun o7 hf => ?_)
      refine r_nn hf (fun i8 hf => ?_)
      refine lv_iload_n X.hx X.hb dX0_keysOf_19 rfl (lv_at hl 1 rfl) ?_
      refine wvX3_is X h q1002 (Nat.le_of_ble_eq_true rfl) (Nat.le_of_ble_eq_true rfl) (rest := [.int x1]) ⟨hl.1, Nat.le_of_ble_eq_true rfl, Nat.le_of_ble_eq_true rfl, Nat.le_of_ble_eq_true rfl⟩ rfl dX0_keysOf_20 hf (fun x9 μ10 H locs hf h => ?_)
      refine r_jn hf (fun j13 ej13 hf => ?_)
      have hj13 : ∀ (x11 : Int32) (μ12 : gM) (H : Heap) (locs : List Loc) (ls : Array Slot), j13 x11 μ12 = some r → gWd Γ A nz ad μ12 s.heap H locs → lv_has ls 4 [(0, .ref (ad b0)), (1, .int a1), (3, .int x2)] → W p l e ({ frames := 3, cells := 0, slots := 0, locals := 63 } : Room) s m args below meth c H locs 0 0 (MQ below (gQ0 Γ ad nz r A) args s 0 0 A) (F0 m 31 ls [.int x11, .int x1]) := by
        intro x11 μ12 H locs ls hf h hl
        rw [ej13] at hf
        refine lv_iadd X.hx X.hb dX0_keysOf_31 ?_
        refine r_nmI hf (fun x14 hf => ?_)
        refine lv_istore_n (lv' := [(2, .int x14), (0, .ref (ad b0)), (1, .int a1), (3, .int x2)]) X.hx X.hb dX0_keysOf_32 rfl hl (by decide) rfl (fun ls hl => ?_)
        refine r_nmk hf (fun x15 ex hf => ?_)
        refine lv_iinc (v := x15) (lv' := [(3, .int x15), (2, .int x14), (0, .ref (ad b0)), (1, .int a1)]) X.hx X.hb dX0_keysOf_33 hl (k := 3) rfl (by rw [ex]; rfl) (by decide) rfl (fun ls hl => ?_)
        clear ex
        refine lv_goto (tgt := 4) X.hx X.hb dX0_keysOf_36 (by decide) ?_
        exact ih _ _ _ _ _ _ hf h (lv_sub hl [2, 3, 1, 0] rfl)
      clear ej13
      refine lv_if_eq (tgt := 30) X.hx X.hb dX0_keysOf_23 (by decide) (fun hc => ?_) (fun hc => ?_)
      · replace hf := gif_t hf hc
        clear hc
        refine lv_iconst (v := 0) X.hx X.hb dX0_keysOf_30 (by decide) ?_
        exact hj13 _ _ _ _ _ hf h (lv_sub hl [0, 1, 3] rfl)
      · replace hf := gif_f hf hc
        clear hc
        refine lv_iconst (v := 1) X.hx X.hb dX0_keysOf_26 (by decide) ?_
        refine lv_goto (tgt := 31) X.hx X.hb dX0_keysOf_27 (by decide) ?_
        exact hj13 _ _ _ _ _ hf h (lv_sub hl [0, 1, 3] rfl)
def fX0_keysOf (μ0 : gM) (b0 : Nat) (a1 : Int32) : gR := fX0_keysOf_L4 b0 a1 10000 0 0 μ0
set_option maxHeartbeats 4000000 in
theorem wX0_keysOf (l : Launch) (Γ : gG) (ad : Nat → Nat) (μ0 : gM) (b0 : Nat) (a1 : Int32) (r : Option Value × gM) (hf : fX0_keysOf μ0 b0 a1 = some r) : gMt0 l Γ yX0_keysOf (ws_ yX0_keysOf cX0_keysOf 4 (some .int)) ({ frames := 3, cells := 0, slots := 0, locals := 63 } : Room) 0 0 ad μ0 [.ref (ad b0), .int a1] r := by
  intro sz
  refine g_start (maxL := 4) (ret := (some .int)) (by decide) rfl g_all (Nat.le_of_ble_eq_true rfl) ?_
  intro p e s m below meth c ls hr hlk hnm X h hl
  generalize gA ad μ0 sz = A at X h ⊢
  generalize ([.ref (ad b0), .int a1] : List Value).toArray = args at X ⊢
  have X : gX p m c cX0_keysOf 4 s args "SandPiano" Γ A := X
  have hl : lv_has ls 4 [(0, .ref (ad b0)), (1, .int a1)] := hl
  show W p l e ({ frames := 3, cells := 0, slots := 0, locals := 63 } : Room) s m args below meth c s.heap [] 0 0 (MQ below (gQ0 Γ ad μ0.1 r A) args s 0 0 A) (F0 m 0 ls [])
  unfold fX0_keysOf at hf
  refine lv_iconst (v := 0) X.hx X.hb dX0_keysOf_0 (by decide) ?_
  refine lv_istore_n (lv' := [(2, .int 0), (0, .ref (ad b0)), (1, .int a1)]) X.hx X.hb dX0_keysOf_1 rfl hl (by decide) rfl (fun ls hl => ?_)
  refine lv_iconst (v := 0) X.hx X.hb dX0_keysOf_2 (by decide) ?_
  refine lv_istore_n (lv' := [(3, .int 0), (2, .int 0), (0, .ref (ad b0)), (1, .int a1)]) X.hx X.hb dX0_keysOf_3 rfl hl (by decide) rfl (fun ls hl => ?_)
  refine wX0_keysOf_L4 l b0 a1 X hr hlk 10000 _ _ _ _ _ _ hf h (lv_sub hl [2, 3, 1, 0] rfl)
/-! X0_thereOf -/
def fX0_thereOf_L4 (b0 : Nat) (a1 : Int32) : Nat → Int32 → Int32 → gM → gR
  | 0, _, _, _ => none
  | n4 + 1, x1, x2, μ3 => if 6 ≤ x2 then (some (some (.int x1), μ3)) else (gjn (fun (x5 : Int32) (μ6 : gM) => gnm ((x1 + x5)) fun x8 => gnm (x2 + 1) fun x9 => fX0_thereOf_L4 b0 a1 n4 x8 x9 μ6) fun j7 => gjn (fun  (μ10 : gM) => j7 1 μ10) fun j11 => gjn (fun  (μ12 : gM) => gjn (fun  (μ14 : gM) => gjn (fun  (μ16 : gM) => j7 0 μ16) fun j17 => if a1 = 8 then (if 3 ≤ x2 then (j17 μ14) else (gP (gfld μ14 b0 0 21) fun i18 => gaQ μ14 6 i18 x2 fun o19 => gnu o19 (j17 μ14) (j11 μ14))) else (j17 μ14)) fun j15 => if a1 = 7 then (if 4 ≤ x2 then (j15 μ12) else (gP (gfld μ12 b0 0 6) fun i20 => gaQ μ12 4 i20 x2 fun o21 => gnu o21 (j15 μ12) (j11 μ12))) else (j15 μ12)) fun j13 => if a1 = 6 then (gP (gfld μ3 b0 0 5) fun i22 => gaQ μ3 3 i22 x2 fun o23 => gnu o23 (j13 μ3) (j11 μ3)) else (j13 μ3))
set_option maxHeartbeats 4000000 in
theorem wX0_thereOf_L4 {p : Program} {e : Env} {s : State} {m : MethodId} {args : Array Value} {below : List Frame} {meth : Method} {c : Code} {Γ : gG} {A : Nat → Prop} {nz : Nat} {ad : Nat → Nat} {r : Option Value × gM} (l : Launch) (b0 : Nat) (a1 : Int32) (X : gX p m c cX0_thereOf 4 s args "SandPiano" Γ A) (hr : meth.sig.returnType = (some .int)) (hlk : meth.locks = false) : ∀ (n4 : Nat) (x1 : Int32) (x2 : Int32) (μ3 : gM) (H : Heap) (locs : List Loc) (ls : Array Slot), fX0_thereOf_L4 b0 a1 n4 x1 x2 μ3 = some r → gWd Γ A nz ad μ3 s.heap H locs → lv_has ls 4 [(0, .ref (ad b0)), (1, .int a1), (2, .int x1), (3, .int x2)] → W p l e ({ frames := 0, cells := 0, slots := 0, locals := 0 } : Room) s m args below meth c H locs 0 0 (MQ below (gQ0 Γ ad nz r A) args s 0 0 A) (F0 m 4 ls []) := by
  intro n4
  induction n4 with
  | zero =>
    intro x1 x2 μ3 H locs ls hf h hl
    have hf : (none : gR) = some r := hf
    cases hf
  | succ n4 ih =>
    intro x1 x2 μ3 H locs ls hf h hl
    rw [fX0_thereOf_L4] at hf
    refine lv_iload_n X.hx X.hb dX0_thereOf_4 rfl (lv_at hl 3 rfl) ?_
    refine lv_bipush (v := 6) X.hx X.hb dX0_thereOf_5 (by decide) ?_
    refine lv_icmp_ge (tgt := 79) X.hx X.hb dX0_thereOf_7 (by decide) (fun hc => ?_) (fun hc => ?_)
    · replace hf := gif_t hf hc
      clear hc
      refine lv_iload_n X.hx X.hb dX0_thereOf_79 rfl (lv_at hl 2 rfl) ?_
      exact r_ri X h hr hlk (Nat.le_of_ble_eq_true rfl) (Nat.le_of_ble_eq_true rfl) dX0_thereOf_80 hf
    · replace hf := gif_f hf hc
      clear hc
      refine lv_iload_n X.hx X.hb dX0_thereOf_10 rfl (lv_at hl 2 rfl) ?_
      refine lv_iload_n X.hx X.hb dX0_thereOf_11 rfl (lv_at hl 1 rfl) ?_
      refine lv_bipush (v := 6) X.hx X.hb dX0_thereOf_12 (by decide) ?_
      refine r_jn hf (fun j7 ej7 hf => ?_)
      have hj7 : ∀ (x5 : Int32) (μ6 : gM) (H : Heap) (locs : List Loc) (ls : Array Slot), j7 x5 μ6 = some r → gWd Γ A nz ad μ6 s.heap H locs → lv_has ls 4 [(0, .ref (ad b0)), (1, .int a1), (3, .int x2)] → W p l e ({ frames := 0, cells := 0, slots := 0, locals := 0 } : Room) s m args below meth c H locs 0 0 (MQ below (gQ0 Γ ad nz r A) args s 0 0 A) (F0 m 71 ls [.int x5, .int x1]) := by
        intro x5 μ6 H locs ls hf h hl
        rw [ej7] at hf
        refine lv_iadd X.hx X.hb dX0_thereOf_71 ?_
        refine r_nmI hf (fun x8 hf => ?_)
        refine lv_istore_n (lv' := [(2, .int x8), (0, .ref (ad b0)), (1, .int a1), (3, .int x2)]) X.hx X.hb dX0_thereOf_72 rfl hl (by decide) rfl (fun ls hl => ?_)
        refine r_nmk hf (fun x9 ex hf => ?_)
        refine lv_iinc (v := x9) (lv' := [(3, .int x9), (2, .int x8), (0, .ref (ad b0)), (1, .int a1)]) X.hx X.hb dX0_thereOf_73 hl (k := 3) rfl (by rw [ex]; rfl) (by decide) rfl (fun ls hl => ?_)
        clear ex
        refine lv_goto (tgt := 4) X.hx X.hb dX0_thereOf_76 (by decide) ?_
        exact ih _ _ _ _ _ _ hf h (lv_sub hl [2, 3, 1, 0] rfl)
      clear ej7
      refine r_jn hf (fun j11 ej11 hf => ?_)
      have hj11 : ∀  (μ10 : gM) (H : Heap) (locs : List Loc) (ls : Array Slot), j11  μ10 = some r → gWd Γ A nz ad μ10 s.heap H locs → lv_has ls 4 [(0, .ref (ad b0)), (1, .int a1), (3, .int x2)] → W p l e ({ frames := 0, cells := 0, slots := 0, locals := 0 } : Room) s m args below meth c H locs 0 0 (MQ below (gQ0 Γ ad nz r A) args s 0 0 A) (F0 m 66 ls [.int x1]) := by
        intro μ10 H locs ls hf h hl
        rw [ej11] at hf
        refine lv_iconst (v := 1) X.hx X.hb dX0_thereOf_66 (by decide) ?_
        refine lv_goto (tgt := 71) X.hx X.hb dX0_thereOf_67 (by decide) ?_
        exact hj7 _ _ _ _ _ hf h (lv_sub hl [0, 1, 2] rfl)
      clear ej11
      refine r_jn hf (fun j13 ej13 hf => ?_)
      have hj13 : ∀  (μ12 : gM) (H : Heap) (locs : List Loc) (ls : Array Slot), j13  μ12 = some r → gWd Γ A nz ad μ12 s.heap H locs → lv_has ls 4 [(0, .ref (ad b0)), (1, .int a1), (3, .int x2)] → W p l e ({ frames := 0, cells := 0, slots := 0, locals := 0 } : Room) s m args below meth c H locs 0 0 (MQ below (gQ0 Γ ad nz r A) args s 0 0 A) (F0 m 26 ls [.int x1]) := by
        intro μ12 H locs ls hf h hl
        rw [ej13] at hf
        refine lv_iload_n X.hx X.hb dX0_thereOf_26 rfl (lv_at hl 1 rfl) ?_
        refine lv_bipush (v := 7) X.hx X.hb dX0_thereOf_27 (by decide) ?_
        refine r_jn hf (fun j15 ej15 hf => ?_)
        have hj15 : ∀  (μ14 : gM) (H : Heap) (locs : List Loc) (ls : Array Slot), j15  μ14 = some r → gWd Γ A nz ad μ14 s.heap H locs → lv_has ls 4 [(0, .ref (ad b0)), (1, .int a1), (3, .int x2)] → W p l e ({ frames := 0, cells := 0, slots := 0, locals := 0 } : Room) s m args below meth c H locs 0 0 (MQ below (gQ0 Γ ad nz r A) args s 0 0 A) (F0 m 46 ls [.int x1]) := by
          intro μ14 H locs ls hf h hl
          rw [ej15] at hf
          refine lv_iload_n X.hx X.hb dX0_thereOf_46 rfl (lv_at hl 1 rfl) ?_
          refine lv_bipush (v := 8) X.hx X.hb dX0_thereOf_47 (by decide) ?_
          refine r_jn hf (fun j17 ej17 hf => ?_)
          have hj17 : ∀  (μ16 : gM) (H : Heap) (locs : List Loc) (ls : Array Slot), j17  μ16 = some r → gWd Γ A nz ad μ16 s.heap H locs → lv_has ls 4 [(0, .ref (ad b0)), (1, .int a1), (3, .int x2)] → W p l e ({ frames := 0, cells := 0, slots := 0, locals := 0 } : Room) s m args below meth c H locs 0 0 (MQ below (gQ0 Γ ad nz r A) args s 0 0 A) (F0 m 70 ls [.int x1]) := by
            intro μ16 H locs ls hf h hl
            rw [ej17] at hf
            refine lv_iconst (v := 0) X.hx X.hb dX0_thereOf_70 (by decide) ?_
            exact hj7 _ _ _ _ _ hf h (lv_sub hl [0, 1, 2] rfl)
          clear ej17
          refine lv_icmp_ne (tgt := 70) X.hx X.hb dX0_thereOf_49 (by decide) (fun hc => ?_) (fun hc => ?_)
          · replace hf := gif_f hf hc
            clear hc
            exact hj17 _ _ _ _ hf h (lv_sub hl [0, 1, 2] rfl)
          · replace hf := gif_t hf hc
            clear hc
            refine lv_iload_n X.hx X.hb dX0_thereOf_52 rfl (lv_at hl 2 rfl) ?_
            refine lv_iconst (v := 3) X.hx X.hb dX0_thereOf_53 (by decide) ?_
            refine lv_icmp_ge (tgt := 70) X.hx X.hb dX0_thereOf_54 (by decide) (fun hc => ?_) (fun hc => ?_)
            · replace hf := gif_t hf hc
              clear hc
              exact hj17 _ _ _ _ hf h (lv_sub hl [0, 1, 2] rfl)
            · replace hf := gif_f hf hc
              clear hc
              refine lv_aload_n X.hx X.hb dX0_thereOf_57 rfl (lv_at hl 0 rfl) ?_
              refine r_getP X h (ci := 0) (k := 21) (C := RX0) (T := TX0) (N := 36) rfl in_X0 (by decide) q163 rfl dX0_thereOf_58 hf (fun i18 hf => ?_)
              refine lv_iload_n X.hx X.hb dX0_thereOf_61 rfl (lv_at hl 2 rfl) ?_
              refine r_aald X h (t := 6) rfl rfl dX0_thereOf_62 hf (fun o19 hf => ?_)
              refine r_ifnu (tgt := 70) X.hx X.hb dX0_thereOf_63 (by decide) hf (fun hf => ?_) (fun hf => ?_)
              · exact hj17 _ _ _ _ hf h (lv_sub hl [0, 1, 2] rfl)
              · exact hj11 _ _ _ _ hf h (lv_sub hl [0, 1, 2] rfl)
        clear ej15
        refine lv_icmp_ne (tgt := 46) X.hx X.hb dX0_thereOf_29 (by decide) (fun hc => ?_) (fun hc => ?_)
        · replace hf := gif_f hf hc
          clear hc
          exact hj15 _ _ _ _ hf h (lv_sub hl [0, 1, 2] rfl)
        · replace hf := gif_t hf hc
          clear hc
          refine lv_iload_n X.hx X.hb dX0_thereOf_32 rfl (lv_at hl 2 rfl) ?_
          refine lv_iconst (v := 4) X.hx X.hb dX0_thereOf_33 (by decide) ?_
          refine lv_icmp_ge (tgt := 46) X.hx X.hb dX0_thereOf_34 (by decide) (fun hc => ?_) (fun hc => ?_)
          · replace hf := gif_t hf hc
            clear hc
            exact hj15 _ _ _ _ hf h (lv_sub hl [0, 1, 2] rfl)
          · replace hf := gif_f hf hc
            clear hc
            refine lv_aload_n X.hx X.hb dX0_thereOf_37 rfl (lv_at hl 0 rfl) ?_
            refine r_getP X h (ci := 0) (k := 6) (C := RX0) (T := TX0) (N := 36) rfl in_X0 (by decide) q147 rfl dX0_thereOf_38 hf (fun i20 hf => ?_)
            refine lv_iload_n X.hx X.hb dX0_thereOf_41 rfl (lv_at hl 2 rfl) ?_
            refine r_aald X h (t := 4) rfl rfl dX0_thereOf_42 hf (fun o21 hf => ?_)
            refine r_ifnn (tgt := 66) X.hx X.hb dX0_thereOf_43 (by decide) hf (fun hf => ?_) (fun hf => ?_)
            · exact hj11 _ _ _ _ hf h (lv_sub hl [0, 1, 2] rfl)
            · exact hj15 _ _ _ _ hf h (lv_sub hl [0, 1, 2] rfl)
      clear ej13
      refine lv_icmp_ne (tgt := 26) X.hx X.hb dX0_thereOf_14 (by decide) (fun hc => ?_) (fun hc => ?_)
      · replace hf := gif_f hf hc
        clear hc
        exact hj13 _ _ _ _ hf h (lv_sub hl [0, 1, 3] rfl)
      · replace hf := gif_t hf hc
        clear hc
        refine lv_aload_n X.hx X.hb dX0_thereOf_17 rfl (lv_at hl 0 rfl) ?_
        refine r_getP X h (ci := 0) (k := 5) (C := RX0) (T := TX0) (N := 36) rfl in_X0 (by decide) q146 rfl dX0_thereOf_18 hf (fun i22 hf => ?_)
        refine lv_iload_n X.hx X.hb dX0_thereOf_21 rfl (lv_at hl 3 rfl) ?_
        refine r_aald X h (t := 3) rfl rfl dX0_thereOf_22 hf (fun o23 hf => ?_)
        refine r_ifnn (tgt := 66) X.hx X.hb dX0_thereOf_23 (by decide) hf (fun hf => ?_) (fun hf => ?_)
        · exact hj11 _ _ _ _ hf h (lv_sub hl [0, 1, 3] rfl)
        · exact hj13 _ _ _ _ hf h (lv_sub hl [0, 1, 3] rfl)
def fX0_thereOf (μ0 : gM) (b0 : Nat) (a1 : Int32) : gR := fX0_thereOf_L4 b0 a1 10000 0 0 μ0
set_option maxHeartbeats 4000000 in
theorem wX0_thereOf (l : Launch) (Γ : gG) (ad : Nat → Nat) (μ0 : gM) (b0 : Nat) (a1 : Int32) (r : Option Value × gM) (hf : fX0_thereOf μ0 b0 a1 = some r) : gMt0 l Γ yX0_thereOf (ws_ yX0_thereOf cX0_thereOf 4 (some .int)) ({ frames := 0, cells := 0, slots := 0, locals := 0 } : Room) 0 0 ad μ0 [.ref (ad b0), .int a1] r := by
  intro sz
  refine g_start (maxL := 4) (ret := (some .int)) (by decide) rfl g_all (Nat.le_of_ble_eq_true rfl) ?_
  intro p e s m below meth c ls hr hlk hnm X h hl
  generalize gA ad μ0 sz = A at X h ⊢
  generalize ([.ref (ad b0), .int a1] : List Value).toArray = args at X ⊢
  have X : gX p m c cX0_thereOf 4 s args "SandPiano" Γ A := X
  have hl : lv_has ls 4 [(0, .ref (ad b0)), (1, .int a1)] := hl
  show W p l e ({ frames := 0, cells := 0, slots := 0, locals := 0 } : Room) s m args below meth c s.heap [] 0 0 (MQ below (gQ0 Γ ad μ0.1 r A) args s 0 0 A) (F0 m 0 ls [])
  unfold fX0_thereOf at hf
  refine lv_iconst (v := 0) X.hx X.hb dX0_thereOf_0 (by decide) ?_
  refine lv_istore_n (lv' := [(2, .int 0), (0, .ref (ad b0)), (1, .int a1)]) X.hx X.hb dX0_thereOf_1 rfl hl (by decide) rfl (fun ls hl => ?_)
  refine lv_iconst (v := 0) X.hx X.hb dX0_thereOf_2 (by decide) ?_
  refine lv_istore_n (lv' := [(3, .int 0), (2, .int 0), (0, .ref (ad b0)), (1, .int a1)]) X.hx X.hb dX0_thereOf_3 rfl hl (by decide) rfl (fun ls hl => ?_)
  refine wX0_thereOf_L4 l b0 a1 X hr hlk 10000 _ _ _ _ _ _ hf h (lv_sub hl [2, 3, 1, 0] rfl)
