set_option maxRecDepth 100000
/-! X2_init -/
def fX2_init_L178 (b0 : Nat) (kx197 : gM → gR) : Nat → Int32 → gM → gR
  | 0, _, _ => none
  | n85 + 1, x83, μ84 => if 6 ≤ x83 then (kx197 μ84) else (gP (gfld μ84 b0 2 5) fun i87 => gsI μ84 0 i87 x83 (-1) fun μ88 => gnm (x83 + 1) fun x89 => fX2_init_L178 b0 kx197 n85 x89 μ88)
set_option maxHeartbeats 4000000 in
theorem wX2_init_L178 {p : Program} {e : Env} {s : State} {m : MethodId} {args : Array Value} {below : List Frame} {meth : Method} {c : Code} {Γ : gG} {A : Nat → Prop} {nz : Nat} {ad : Nat → Nat} {r : Option Value × gM} (l : Launch) (b0 : Nat) (kx197 : gM → gR) (X : gX p m c cX2_init 2 s args "SandPianoModel" Γ A) (hr : meth.sig.returnType = none) (hlk : meth.locks = false) (hk197 : ∀  (μ : gM) (ad1 : Nat → Nat) (H : Heap) (locs : List Loc) (ls : Array Slot), (∀ i, i < nz → ad1 i = ad i) → kx197  μ = some r → gWd Γ A nz ad1 μ s.heap H locs → lv_has ls 2 [(0, .ref (ad1 b0))] → W p l e ({ frames := 1, cells := 20, slots := 10709, locals := 20 } : Room) s m args below meth c H locs 20 10709 (MQ below (gQ1 Γ ad nz r A) args s 20 10709 A) (F0 m 197 ls [])) : ∀ (n85 : Nat) (x83 : Int32) (μ84 : gM) (ad86 : Nat → Nat) (H : Heap) (locs : List Loc) (ls : Array Slot), (∀ i, i < nz → ad86 i = ad i) → fX2_init_L178 b0 kx197 n85 x83 μ84 = some r → gWd Γ A nz ad86 μ84 s.heap H locs → lv_has ls 2 [(0, .ref (ad86 b0)), (1, .int x83)] → W p l e ({ frames := 1, cells := 20, slots := 10709, locals := 20 } : Room) s m args below meth c H locs 20 10709 (MQ below (gQ1 Γ ad nz r A) args s 20 10709 A) (F0 m 178 ls []) := by
  intro n85
  induction n85 with
  | zero =>
    intro x83 μ84 ad86 H locs ls hag hf h hl
    have hf : (none : gR) = some r := hf
    cases hf
  | succ n85 ih =>
    intro x83 μ84 ad86 H locs ls hag hf h hl
    rw [fX2_init_L178] at hf
    refine lv_iload_n X.hx X.hb dX2_init_178 rfl (lv_at hl 1 rfl) ?_
    refine lv_bipush (v := 6) X.hx X.hb dX2_init_179 (by decide) ?_
    refine lv_icmp_ge (tgt := 197) X.hx X.hb dX2_init_181 (by decide) (fun hc => ?_) (fun hc => ?_)
    · replace hf := gif_t hf hc
      clear hc
      exact hk197 _ _ _ _ _ hag hf h (lv_sub hl [0] rfl)
    · replace hf := gif_f hf hc
      clear hc
      refine lv_aload_n X.hx X.hb dX2_init_184 rfl (lv_at hl 0 rfl) ?_
      refine r_getP X h (ci := 2) (k := 5) (C := RX2) (T := TX2) (N := 36) rfl in_X2 (by decide) q1064 rfl dX2_init_185 hf (fun i87 hf => ?_)
      refine lv_iload_n X.hx X.hb dX2_init_188 rfl (lv_at hl 1 rfl) ?_
      refine lv_iconst (v := (-1)) X.hx X.hb dX2_init_189 (by decide) ?_
      refine r_iast X h dX2_init_190 hf (fun μ88 H locs hf h => ?_)
      refine r_nmk hf (fun x89 ex hf => ?_)
      refine lv_iinc (v := x89) (lv' := [(1, .int x89), (0, .ref (ad86 b0))]) X.hx X.hb dX2_init_191 hl (k := 1) rfl (by rw [ex]; rfl) (by decide) rfl (fun ls hl => ?_)
      clear ex
      refine lv_goto (tgt := 178) X.hx X.hb dX2_init_194 (by decide) ?_
      exact ih _ _ _ _ _ _ hag hf h (lv_sub hl [1, 0] rfl)
def fX2_init_L199 (b0 : Nat) : Nat → Int32 → gM → gR
  | 0, _, _ => none
  | n94 + 1, x92, μ93 => if 4 ≤ x92 then (some (none, μ93)) else (gP (gfld μ93 b0 2 8) fun i96 => gsI μ93 0 i96 x92 (-1) fun μ97 => gnm (x92 + 1) fun x98 => fX2_init_L199 b0 n94 x98 μ97)
set_option maxHeartbeats 4000000 in
theorem wX2_init_L199 {p : Program} {e : Env} {s : State} {m : MethodId} {args : Array Value} {below : List Frame} {meth : Method} {c : Code} {Γ : gG} {A : Nat → Prop} {nz : Nat} {ad : Nat → Nat} {r : Option Value × gM} (l : Launch) (b0 : Nat) (X : gX p m c cX2_init 2 s args "SandPianoModel" Γ A) (hr : meth.sig.returnType = none) (hlk : meth.locks = false) : ∀ (n94 : Nat) (x92 : Int32) (μ93 : gM) (ad95 : Nat → Nat) (H : Heap) (locs : List Loc) (ls : Array Slot), (∀ i, i < nz → ad95 i = ad i) → fX2_init_L199 b0 n94 x92 μ93 = some r → gWd Γ A nz ad95 μ93 s.heap H locs → lv_has ls 2 [(0, .ref (ad95 b0)), (1, .int x92)] → W p l e ({ frames := 1, cells := 20, slots := 10709, locals := 20 } : Room) s m args below meth c H locs 20 10709 (MQ below (gQ1 Γ ad nz r A) args s 20 10709 A) (F0 m 199 ls []) := by
  intro n94
  induction n94 with
  | zero =>
    intro x92 μ93 ad95 H locs ls hag hf h hl
    have hf : (none : gR) = some r := hf
    cases hf
  | succ n94 ih =>
    intro x92 μ93 ad95 H locs ls hag hf h hl
    rw [fX2_init_L199] at hf
    refine lv_iload_n X.hx X.hb dX2_init_199 rfl (lv_at hl 1 rfl) ?_
    refine lv_iconst (v := 4) X.hx X.hb dX2_init_200 (by decide) ?_
    refine lv_icmp_ge (tgt := 217) X.hx X.hb dX2_init_201 (by decide) (fun hc => ?_) (fun hc => ?_)
    · replace hf := gif_t hf hc
      clear hc
      exact r_rv1 X h hag hr hlk (Nat.le_of_ble_eq_true rfl) (Nat.le_of_ble_eq_true rfl) dX2_init_217 hf
    · replace hf := gif_f hf hc
      clear hc
      refine lv_aload_n X.hx X.hb dX2_init_204 rfl (lv_at hl 0 rfl) ?_
      refine r_getP X h (ci := 2) (k := 8) (C := RX2) (T := TX2) (N := 36) rfl in_X2 (by decide) q1067 rfl dX2_init_205 hf (fun i96 hf => ?_)
      refine lv_iload_n X.hx X.hb dX2_init_208 rfl (lv_at hl 1 rfl) ?_
      refine lv_iconst (v := (-1)) X.hx X.hb dX2_init_209 (by decide) ?_
      refine r_iast X h dX2_init_210 hf (fun μ97 H locs hf h => ?_)
      refine r_nmk hf (fun x98 ex hf => ?_)
      refine lv_iinc (v := x98) (lv' := [(1, .int x98), (0, .ref (ad95 b0))]) X.hx X.hb dX2_init_211 hl (k := 1) rfl (by rw [ex]; rfl) (by decide) rfl (fun ls hl => ?_)
      clear ex
      refine lv_goto (tgt := 199) X.hx X.hb dX2_init_214 (by decide) ?_
      exact ih _ _ _ _ _ _ hag hf h (lv_sub hl [1, 0] rfl)
def fX2_init (μ0 : gM) (b0 : Nat) : gR := glv μ0 b0 <| gna μ0 0 6 6 fun μ2 i3 => glv μ2 i3 <| gpf μ2 b0 2 1 (.ref i3) fun μ4 => gpf μ4 b0 2 4 (.long 1) fun μ5 => glv μ5 b0 <| gna μ5 0 6 6 fun μ7 i8 => glv μ7 i8 <| gpf μ7 b0 2 5 (.ref i8) fun μ9 => glv μ9 b0 <| gna μ9 0 240 240 fun μ11 i12 => glv μ11 i12 <| gpf μ11 b0 2 6 (.ref i12) fun μ13 => glv μ13 b0 <| gna μ13 0 40 40 fun μ15 i16 => glv μ15 i16 <| gpf μ15 b0 2 7 (.ref i16) fun μ17 => glv μ17 b0 <| gna μ17 0 4 4 fun μ19 i20 => glv μ19 i20 <| gpf μ19 b0 2 8 (.ref i20) fun μ21 => glv μ21 b0 <| gna μ21 1 240 240 fun μ23 i24 => glv μ23 i24 <| gpf μ23 b0 2 9 (.ref i24) fun μ25 => glv μ25 b0 <| gna μ25 0 6 6 fun μ27 i28 => glv μ27 i28 <| gpf μ27 b0 2 12 (.ref i28) fun μ29 => glv μ29 b0 <| gna μ29 0 6 6 fun μ31 i32 => glv μ31 i32 <| gpf μ31 b0 2 13 (.ref i32) fun μ33 => glv μ33 b0 <| gna μ33 0 6 6 fun μ35 i36 => glv μ35 i36 <| gpf μ35 b0 2 14 (.ref i36) fun μ37 => glv μ37 b0 <| gna μ37 0 24 24 fun μ39 i40 => glv μ39 i40 <| gpf μ39 b0 2 19 (.ref i40) fun μ41 => glv μ41 b0 <| gna μ41 0 135 135 fun μ43 i44 => glv μ43 i44 <| gpf μ43 b0 2 20 (.ref i44) fun μ45 => glv μ45 b0 <| gna μ45 0 540 540 fun μ47 i48 => glv μ47 i48 <| gpf μ47 b0 2 22 (.ref i48) fun μ49 => glv μ49 b0 <| gna μ49 2 3 3 fun μ51 i52 => glv μ51 i52 <| gpf μ51 b0 2 23 (.ref i52) fun μ53 => glv μ53 b0 <| gna μ53 0 3 3 fun μ55 i56 => glv μ55 i56 <| gpf μ55 b0 2 24 (.ref i56) fun μ57 => glv μ57 b0 <| gna μ57 0 3 3 fun μ59 i60 => glv μ59 i60 <| gpf μ59 b0 2 25 (.ref i60) fun μ61 => glv μ61 b0 <| gna μ61 0 27 27 fun μ63 i64 => glv μ63 i64 <| gpf μ63 b0 2 26 (.ref i64) fun μ65 => glv μ65 b0 <| gna μ65 0 1620 1620 fun μ67 i68 => glv μ67 i68 <| gpf μ67 b0 2 27 (.ref i68) fun μ69 => glv μ69 b0 <| gna μ69 0 12 12 fun μ71 i72 => glv μ71 i72 <| gpf μ71 b0 2 28 (.ref i72) fun μ73 => glv μ73 b0 <| gna μ73 0 12 12 fun μ75 i76 => glv μ75 i76 <| gpf μ75 b0 2 29 (.ref i76) fun μ77 => glv μ77 b0 <| gna μ77 0 7776 7776 fun μ79 i80 => glv μ79 i80 <| gpf μ79 b0 2 34 (.ref i80) fun μ81 => gpf μ81 b0 2 10 (.int 1) fun μ82 => fX2_init_L178 b0 (fun (μ90 : gM) => fX2_init_L199 b0 10000 0 μ90) 10000 0 μ82
set_option maxHeartbeats 4000000 in
theorem wX2_init (l : Launch) (Γ : gG) (ad : Nat → Nat) (μ0 : gM) (b0 : Nat) (r : Option Value × gM) (hf : fX2_init μ0 b0 = some r) : gMt1 l Γ yX2_init (ws_ yX2_init cX2_init 2 none) ({ frames := 1, cells := 20, slots := 10709, locals := 20 } : Room) 20 10709 ad μ0 [.ref (ad b0)] r := by
  intro sz
  refine g_start (maxL := 2) (ret := none) (by decide) rfl g_all (Nat.le_of_ble_eq_true rfl) ?_
  intro p e s m below meth c ls hr hlk hnm X h hl
  generalize gA ad μ0 sz = A at X h ⊢
  generalize ([.ref (ad b0)] : List Value).toArray = args at X ⊢
  have X : gX p m c cX2_init 2 s args "SandPianoModel" Γ A := X
  have hl : lv_has ls 2 [(0, .ref (ad b0))] := hl
  show W p l e ({ frames := 1, cells := 20, slots := 10709, locals := 20 } : Room) s m args below meth c s.heap [] 0 0 (MQ below (gQ1 Γ ad μ0.1 r A) args s 20 10709 A) (F0 m 0 ls [])
  unfold fX2_init at hf
  have hag : ∀ i, i < μ0.1 → ad i = ad i := fun _ _ => rfl
  refine lv_aload_n X.hx X.hb dX2_init_0 rfl (lv_at hl 0 rfl) ?_
  refine W.objInit X.hx X.hb X.hown (X.hts _ q1058) (X.hts _ q111) (X.hts _ q112) rfl (by rw [X.hml]; exact hl.1) rfl dX2_init_1 (Nat.le_of_ble_eq_true rfl) (Nat.le_of_ble_eq_true rfl) ?_
  refine W.eq (g2 := F0 m 4 ls []) rfl ?_
  refine lv_aload_n X.hx X.hb dX2_init_4 rfl (lv_at hl 0 rfl) ?_
  refine lv_bipush (v := 6) X.hx X.hb dX2_init_5 (by decide) ?_
  obtain ⟨⟨ek0, hek0⟩, hf⟩ := glv_some hf
  have hlt0 := (h.1 _ _ hek0).1
  clear hek0 ek0
  have hle := h.2.2.2
  refine r_newI X h (lim := 6) (Nat.le_of_ble_eq_true rfl) (Nat.le_of_ble_eq_true rfl) (Nat.le_of_ble_eq_true rfl) dX2_init_7 hf (fun ad1 i3 μ2 H locs hf hag1 h => ?_)
  replace hl : lv_has ls 2 [(0, .ref (ad1 b0))] := by rw [hag1 b0 hlt0]; exact hl
  replace hag : ∀ i, i < μ0.1 → ad1 i = ad i := fun i hi => (hag1 i (Nat.lt_of_lt_of_le hi hle)).trans (hag i hi)
  refine W.eq (g2 := F0 m 9 ls [.ref (ad1 i3), .ref (ad1 b0)]) (by rw [hag1 b0 hlt0]) ?_
  clear hag1 hle hlt0
  obtain ⟨hlv, hf⟩ := glv_some hf
  refine r_putF X h (ci := 2) (k := 1) (C := RX2) (T := TX2) (N := 36) (ty0 := tyX2) (ty := .array .int) (v := .ref i3) rfl in_X2 tyX2_ok nmX2 (by decide) q1060 rfl rfl hnm rfl (by decide +kernel) rfl rfl (fun j hj => by cases hj; exact hlv) dX2_init_9 hf (fun μ4 H locs hf h => ?_)
  refine lv_aload_n X.hx X.hb dX2_init_12 rfl (lv_at hl 0 rfl) ?_
  refine lv_lconst (v := 1) X.hx X.hb dX2_init_13 (by decide) ?_
  refine r_put X h (ci := 2) (k := 4) (C := RX2) (T := TX2) (N := 36) (ty0 := tyX2) (ty := .long) (v := .long 1) rfl in_X2 tyX2_ok nmX2 (by decide) q1063 rfl rfl (by decide +kernel) rfl rfl (fun j hj => by cases hj) dX2_init_14 hf (fun μ5 H locs hf h => ?_)
  refine lv_aload_n X.hx X.hb dX2_init_17 rfl (lv_at hl 0 rfl) ?_
  refine lv_bipush (v := 6) X.hx X.hb dX2_init_18 (by decide) ?_
  obtain ⟨⟨ek0, hek0⟩, hf⟩ := glv_some hf
  have hlt0 := (h.1 _ _ hek0).1
  clear hek0 ek0
  have hle := h.2.2.2
  refine r_newI X h (lim := 6) (Nat.le_of_ble_eq_true rfl) (Nat.le_of_ble_eq_true rfl) (Nat.le_of_ble_eq_true rfl) dX2_init_20 hf (fun ad6 i8 μ7 H locs hf hag1 h => ?_)
  replace hl : lv_has ls 2 [(0, .ref (ad6 b0))] := by rw [hag1 b0 hlt0]; exact hl
  replace hag : ∀ i, i < μ0.1 → ad6 i = ad i := fun i hi => (hag1 i (Nat.lt_of_lt_of_le hi hle)).trans (hag i hi)
  refine W.eq (g2 := F0 m 22 ls [.ref (ad6 i8), .ref (ad6 b0)]) (by rw [hag1 b0 hlt0]) ?_
  clear hag1 hle hlt0
  obtain ⟨hlv, hf⟩ := glv_some hf
  refine r_putF X h (ci := 2) (k := 5) (C := RX2) (T := TX2) (N := 36) (ty0 := tyX2) (ty := .array .int) (v := .ref i8) rfl in_X2 tyX2_ok nmX2 (by decide) q1064 rfl rfl hnm rfl (by decide +kernel) rfl rfl (fun j hj => by cases hj; exact hlv) dX2_init_22 hf (fun μ9 H locs hf h => ?_)
  refine lv_aload_n X.hx X.hb dX2_init_25 rfl (lv_at hl 0 rfl) ?_
  refine lv_sipush (v := 240) X.hx X.hb dX2_init_26 (by decide) ?_
  obtain ⟨⟨ek0, hek0⟩, hf⟩ := glv_some hf
  have hlt0 := (h.1 _ _ hek0).1
  clear hek0 ek0
  have hle := h.2.2.2
  refine r_newI X h (lim := 240) (Nat.le_of_ble_eq_true rfl) (Nat.le_of_ble_eq_true rfl) (Nat.le_of_ble_eq_true rfl) dX2_init_29 hf (fun ad10 i12 μ11 H locs hf hag1 h => ?_)
  replace hl : lv_has ls 2 [(0, .ref (ad10 b0))] := by rw [hag1 b0 hlt0]; exact hl
  replace hag : ∀ i, i < μ0.1 → ad10 i = ad i := fun i hi => (hag1 i (Nat.lt_of_lt_of_le hi hle)).trans (hag i hi)
  refine W.eq (g2 := F0 m 31 ls [.ref (ad10 i12), .ref (ad10 b0)]) (by rw [hag1 b0 hlt0]) ?_
  clear hag1 hle hlt0
  obtain ⟨hlv, hf⟩ := glv_some hf
  refine r_putF X h (ci := 2) (k := 6) (C := RX2) (T := TX2) (N := 36) (ty0 := tyX2) (ty := .array .int) (v := .ref i12) rfl in_X2 tyX2_ok nmX2 (by decide) q1065 rfl rfl hnm rfl (by decide +kernel) rfl rfl (fun j hj => by cases hj; exact hlv) dX2_init_31 hf (fun μ13 H locs hf h => ?_)
  refine lv_aload_n X.hx X.hb dX2_init_34 rfl (lv_at hl 0 rfl) ?_
  refine lv_bipush (v := 40) X.hx X.hb dX2_init_35 (by decide) ?_
  obtain ⟨⟨ek0, hek0⟩, hf⟩ := glv_some hf
  have hlt0 := (h.1 _ _ hek0).1
  clear hek0 ek0
  have hle := h.2.2.2
  refine r_newI X h (lim := 40) (Nat.le_of_ble_eq_true rfl) (Nat.le_of_ble_eq_true rfl) (Nat.le_of_ble_eq_true rfl) dX2_init_37 hf (fun ad14 i16 μ15 H locs hf hag1 h => ?_)
  replace hl : lv_has ls 2 [(0, .ref (ad14 b0))] := by rw [hag1 b0 hlt0]; exact hl
  replace hag : ∀ i, i < μ0.1 → ad14 i = ad i := fun i hi => (hag1 i (Nat.lt_of_lt_of_le hi hle)).trans (hag i hi)
  refine W.eq (g2 := F0 m 39 ls [.ref (ad14 i16), .ref (ad14 b0)]) (by rw [hag1 b0 hlt0]) ?_
  clear hag1 hle hlt0
  obtain ⟨hlv, hf⟩ := glv_some hf
  refine r_putF X h (ci := 2) (k := 7) (C := RX2) (T := TX2) (N := 36) (ty0 := tyX2) (ty := .array .int) (v := .ref i16) rfl in_X2 tyX2_ok nmX2 (by decide) q1066 rfl rfl hnm rfl (by decide +kernel) rfl rfl (fun j hj => by cases hj; exact hlv) dX2_init_39 hf (fun μ17 H locs hf h => ?_)
  refine lv_aload_n X.hx X.hb dX2_init_42 rfl (lv_at hl 0 rfl) ?_
  refine lv_iconst (v := 4) X.hx X.hb dX2_init_43 (by decide) ?_
  obtain ⟨⟨ek0, hek0⟩, hf⟩ := glv_some hf
  have hlt0 := (h.1 _ _ hek0).1
  clear hek0 ek0
  have hle := h.2.2.2
  refine r_newI X h (lim := 4) (Nat.le_of_ble_eq_true rfl) (Nat.le_of_ble_eq_true rfl) (Nat.le_of_ble_eq_true rfl) dX2_init_44 hf (fun ad18 i20 μ19 H locs hf hag1 h => ?_)
  replace hl : lv_has ls 2 [(0, .ref (ad18 b0))] := by rw [hag1 b0 hlt0]; exact hl
  replace hag : ∀ i, i < μ0.1 → ad18 i = ad i := fun i hi => (hag1 i (Nat.lt_of_lt_of_le hi hle)).trans (hag i hi)
  refine W.eq (g2 := F0 m 46 ls [.ref (ad18 i20), .ref (ad18 b0)]) (by rw [hag1 b0 hlt0]) ?_
  clear hag1 hle hlt0
  obtain ⟨hlv, hf⟩ := glv_some hf
  refine r_putF X h (ci := 2) (k := 8) (C := RX2) (T := TX2) (N := 36) (ty0 := tyX2) (ty := .array .int) (v := .ref i20) rfl in_X2 tyX2_ok nmX2 (by decide) q1067 rfl rfl hnm rfl (by decide +kernel) rfl rfl (fun j hj => by cases hj; exact hlv) dX2_init_46 hf (fun μ21 H locs hf h => ?_)
  refine lv_aload_n X.hx X.hb dX2_init_49 rfl (lv_at hl 0 rfl) ?_
  refine lv_sipush (v := 240) X.hx X.hb dX2_init_50 (by decide) ?_
  obtain ⟨⟨ek0, hek0⟩, hf⟩ := glv_some hf
  have hlt0 := (h.1 _ _ hek0).1
  clear hek0 ek0
  have hle := h.2.2.2
  refine r_newB X h (lim := 240) (Nat.le_of_ble_eq_true rfl) (Nat.le_of_ble_eq_true rfl) (Nat.le_of_ble_eq_true rfl) dX2_init_53 hf (fun ad22 i24 μ23 H locs hf hag1 h => ?_)
  replace hl : lv_has ls 2 [(0, .ref (ad22 b0))] := by rw [hag1 b0 hlt0]; exact hl
  replace hag : ∀ i, i < μ0.1 → ad22 i = ad i := fun i hi => (hag1 i (Nat.lt_of_lt_of_le hi hle)).trans (hag i hi)
  refine W.eq (g2 := F0 m 55 ls [.ref (ad22 i24), .ref (ad22 b0)]) (by rw [hag1 b0 hlt0]) ?_
  clear hag1 hle hlt0
  obtain ⟨hlv, hf⟩ := glv_some hf
  refine r_putF X h (ci := 2) (k := 9) (C := RX2) (T := TX2) (N := 36) (ty0 := tyX2) (ty := .array .byte) (v := .ref i24) rfl in_X2 tyX2_ok nmX2 (by decide) q1068 rfl rfl hnm rfl (by decide +kernel) rfl rfl (fun j hj => by cases hj; exact hlv) dX2_init_55 hf (fun μ25 H locs hf h => ?_)
  refine lv_aload_n X.hx X.hb dX2_init_58 rfl (lv_at hl 0 rfl) ?_
  refine lv_bipush (v := 6) X.hx X.hb dX2_init_59 (by decide) ?_
  obtain ⟨⟨ek0, hek0⟩, hf⟩ := glv_some hf
  have hlt0 := (h.1 _ _ hek0).1
  clear hek0 ek0
  have hle := h.2.2.2
  refine r_newI X h (lim := 6) (Nat.le_of_ble_eq_true rfl) (Nat.le_of_ble_eq_true rfl) (Nat.le_of_ble_eq_true rfl) dX2_init_61 hf (fun ad26 i28 μ27 H locs hf hag1 h => ?_)
  replace hl : lv_has ls 2 [(0, .ref (ad26 b0))] := by rw [hag1 b0 hlt0]; exact hl
  replace hag : ∀ i, i < μ0.1 → ad26 i = ad i := fun i hi => (hag1 i (Nat.lt_of_lt_of_le hi hle)).trans (hag i hi)
  refine W.eq (g2 := F0 m 63 ls [.ref (ad26 i28), .ref (ad26 b0)]) (by rw [hag1 b0 hlt0]) ?_
  clear hag1 hle hlt0
  obtain ⟨hlv, hf⟩ := glv_some hf
  refine r_putF X h (ci := 2) (k := 12) (C := RX2) (T := TX2) (N := 36) (ty0 := tyX2) (ty := .array .int) (v := .ref i28) rfl in_X2 tyX2_ok nmX2 (by decide) q1071 rfl rfl hnm rfl (by decide +kernel) rfl rfl (fun j hj => by cases hj; exact hlv) dX2_init_63 hf (fun μ29 H locs hf h => ?_)
  refine lv_aload_n X.hx X.hb dX2_init_66 rfl (lv_at hl 0 rfl) ?_
  refine lv_bipush (v := 6) X.hx X.hb dX2_init_67 (by decide) ?_
  obtain ⟨⟨ek0, hek0⟩, hf⟩ := glv_some hf
  have hlt0 := (h.1 _ _ hek0).1
  clear hek0 ek0
  have hle := h.2.2.2
  refine r_newI X h (lim := 6) (Nat.le_of_ble_eq_true rfl) (Nat.le_of_ble_eq_true rfl) (Nat.le_of_ble_eq_true rfl) dX2_init_69 hf (fun ad30 i32 μ31 H locs hf hag1 h => ?_)
  replace hl : lv_has ls 2 [(0, .ref (ad30 b0))] := by rw [hag1 b0 hlt0]; exact hl
  replace hag : ∀ i, i < μ0.1 → ad30 i = ad i := fun i hi => (hag1 i (Nat.lt_of_lt_of_le hi hle)).trans (hag i hi)
  refine W.eq (g2 := F0 m 71 ls [.ref (ad30 i32), .ref (ad30 b0)]) (by rw [hag1 b0 hlt0]) ?_
  clear hag1 hle hlt0
  obtain ⟨hlv, hf⟩ := glv_some hf
  refine r_putF X h (ci := 2) (k := 13) (C := RX2) (T := TX2) (N := 36) (ty0 := tyX2) (ty := .array .int) (v := .ref i32) rfl in_X2 tyX2_ok nmX2 (by decide) q1072 rfl rfl hnm rfl (by decide +kernel) rfl rfl (fun j hj => by cases hj; exact hlv) dX2_init_71 hf (fun μ33 H locs hf h => ?_)
  refine lv_aload_n X.hx X.hb dX2_init_74 rfl (lv_at hl 0 rfl) ?_
  refine lv_bipush (v := 6) X.hx X.hb dX2_init_75 (by decide) ?_
  obtain ⟨⟨ek0, hek0⟩, hf⟩ := glv_some hf
  have hlt0 := (h.1 _ _ hek0).1
  clear hek0 ek0
  have hle := h.2.2.2
  refine r_newI X h (lim := 6) (Nat.le_of_ble_eq_true rfl) (Nat.le_of_ble_eq_true rfl) (Nat.le_of_ble_eq_true rfl) dX2_init_77 hf (fun ad34 i36 μ35 H locs hf hag1 h => ?_)
  replace hl : lv_has ls 2 [(0, .ref (ad34 b0))] := by rw [hag1 b0 hlt0]; exact hl
  replace hag : ∀ i, i < μ0.1 → ad34 i = ad i := fun i hi => (hag1 i (Nat.lt_of_lt_of_le hi hle)).trans (hag i hi)
  refine W.eq (g2 := F0 m 79 ls [.ref (ad34 i36), .ref (ad34 b0)]) (by rw [hag1 b0 hlt0]) ?_
  clear hag1 hle hlt0
  obtain ⟨hlv, hf⟩ := glv_some hf
  refine r_putF X h (ci := 2) (k := 14) (C := RX2) (T := TX2) (N := 36) (ty0 := tyX2) (ty := .array .int) (v := .ref i36) rfl in_X2 tyX2_ok nmX2 (by decide) q1073 rfl rfl hnm rfl (by decide +kernel) rfl rfl (fun j hj => by cases hj; exact hlv) dX2_init_79 hf (fun μ37 H locs hf h => ?_)
  refine lv_aload_n X.hx X.hb dX2_init_82 rfl (lv_at hl 0 rfl) ?_
  refine lv_bipush (v := 24) X.hx X.hb dX2_init_83 (by decide) ?_
  obtain ⟨⟨ek0, hek0⟩, hf⟩ := glv_some hf
  have hlt0 := (h.1 _ _ hek0).1
  clear hek0 ek0
  have hle := h.2.2.2
  refine r_newI X h (lim := 24) (Nat.le_of_ble_eq_true rfl) (Nat.le_of_ble_eq_true rfl) (Nat.le_of_ble_eq_true rfl) dX2_init_85 hf (fun ad38 i40 μ39 H locs hf hag1 h => ?_)
  replace hl : lv_has ls 2 [(0, .ref (ad38 b0))] := by rw [hag1 b0 hlt0]; exact hl
  replace hag : ∀ i, i < μ0.1 → ad38 i = ad i := fun i hi => (hag1 i (Nat.lt_of_lt_of_le hi hle)).trans (hag i hi)
  refine W.eq (g2 := F0 m 87 ls [.ref (ad38 i40), .ref (ad38 b0)]) (by rw [hag1 b0 hlt0]) ?_
  clear hag1 hle hlt0
  obtain ⟨hlv, hf⟩ := glv_some hf
  refine r_putF X h (ci := 2) (k := 19) (C := RX2) (T := TX2) (N := 36) (ty0 := tyX2) (ty := .array .int) (v := .ref i40) rfl in_X2 tyX2_ok nmX2 (by decide) q1078 rfl rfl hnm rfl (by decide +kernel) rfl rfl (fun j hj => by cases hj; exact hlv) dX2_init_87 hf (fun μ41 H locs hf h => ?_)
  refine lv_aload_n X.hx X.hb dX2_init_90 rfl (lv_at hl 0 rfl) ?_
  refine lv_sipush (v := 135) X.hx X.hb dX2_init_91 (by decide) ?_
  obtain ⟨⟨ek0, hek0⟩, hf⟩ := glv_some hf
  have hlt0 := (h.1 _ _ hek0).1
  clear hek0 ek0
  have hle := h.2.2.2
  refine r_newI X h (lim := 135) (Nat.le_of_ble_eq_true rfl) (Nat.le_of_ble_eq_true rfl) (Nat.le_of_ble_eq_true rfl) dX2_init_94 hf (fun ad42 i44 μ43 H locs hf hag1 h => ?_)
  replace hl : lv_has ls 2 [(0, .ref (ad42 b0))] := by rw [hag1 b0 hlt0]; exact hl
  replace hag : ∀ i, i < μ0.1 → ad42 i = ad i := fun i hi => (hag1 i (Nat.lt_of_lt_of_le hi hle)).trans (hag i hi)
  refine W.eq (g2 := F0 m 96 ls [.ref (ad42 i44), .ref (ad42 b0)]) (by rw [hag1 b0 hlt0]) ?_
  clear hag1 hle hlt0
  obtain ⟨hlv, hf⟩ := glv_some hf
  refine r_putF X h (ci := 2) (k := 20) (C := RX2) (T := TX2) (N := 36) (ty0 := tyX2) (ty := .array .int) (v := .ref i44) rfl in_X2 tyX2_ok nmX2 (by decide) q1079 rfl rfl hnm rfl (by decide +kernel) rfl rfl (fun j hj => by cases hj; exact hlv) dX2_init_96 hf (fun μ45 H locs hf h => ?_)
  refine lv_aload_n X.hx X.hb dX2_init_99 rfl (lv_at hl 0 rfl) ?_
  refine lv_sipush (v := 540) X.hx X.hb dX2_init_100 (by decide) ?_
  obtain ⟨⟨ek0, hek0⟩, hf⟩ := glv_some hf
  have hlt0 := (h.1 _ _ hek0).1
  clear hek0 ek0
  have hle := h.2.2.2
  refine r_newI X h (lim := 540) (Nat.le_of_ble_eq_true rfl) (Nat.le_of_ble_eq_true rfl) (Nat.le_of_ble_eq_true rfl) dX2_init_103 hf (fun ad46 i48 μ47 H locs hf hag1 h => ?_)
  replace hl : lv_has ls 2 [(0, .ref (ad46 b0))] := by rw [hag1 b0 hlt0]; exact hl
  replace hag : ∀ i, i < μ0.1 → ad46 i = ad i := fun i hi => (hag1 i (Nat.lt_of_lt_of_le hi hle)).trans (hag i hi)
  refine W.eq (g2 := F0 m 105 ls [.ref (ad46 i48), .ref (ad46 b0)]) (by rw [hag1 b0 hlt0]) ?_
  clear hag1 hle hlt0
  obtain ⟨hlv, hf⟩ := glv_some hf
  refine r_putF X h (ci := 2) (k := 22) (C := RX2) (T := TX2) (N := 36) (ty0 := tyX2) (ty := .array .int) (v := .ref i48) rfl in_X2 tyX2_ok nmX2 (by decide) q1081 rfl rfl hnm rfl (by decide +kernel) rfl rfl (fun j hj => by cases hj; exact hlv) dX2_init_105 hf (fun μ49 H locs hf h => ?_)
  refine lv_aload_n X.hx X.hb dX2_init_108 rfl (lv_at hl 0 rfl) ?_
  refine lv_iconst (v := 3) X.hx X.hb dX2_init_109 (by decide) ?_
  obtain ⟨⟨ek0, hek0⟩, hf⟩ := glv_some hf
  have hlt0 := (h.1 _ _ hek0).1
  clear hek0 ek0
  have hle := h.2.2.2
  refine r_newZ X h (lim := 3) (Nat.le_of_ble_eq_true rfl) (Nat.le_of_ble_eq_true rfl) (Nat.le_of_ble_eq_true rfl) dX2_init_110 hf (fun ad50 i52 μ51 H locs hf hag1 h => ?_)
  replace hl : lv_has ls 2 [(0, .ref (ad50 b0))] := by rw [hag1 b0 hlt0]; exact hl
  replace hag : ∀ i, i < μ0.1 → ad50 i = ad i := fun i hi => (hag1 i (Nat.lt_of_lt_of_le hi hle)).trans (hag i hi)
  refine W.eq (g2 := F0 m 112 ls [.ref (ad50 i52), .ref (ad50 b0)]) (by rw [hag1 b0 hlt0]) ?_
  clear hag1 hle hlt0
  obtain ⟨hlv, hf⟩ := glv_some hf
  refine r_putF X h (ci := 2) (k := 23) (C := RX2) (T := TX2) (N := 36) (ty0 := tyX2) (ty := .array .boolean) (v := .ref i52) rfl in_X2 tyX2_ok nmX2 (by decide) q1082 rfl rfl hnm rfl (by decide +kernel) rfl rfl (fun j hj => by cases hj; exact hlv) dX2_init_112 hf (fun μ53 H locs hf h => ?_)
  refine lv_aload_n X.hx X.hb dX2_init_115 rfl (lv_at hl 0 rfl) ?_
  refine lv_iconst (v := 3) X.hx X.hb dX2_init_116 (by decide) ?_
  obtain ⟨⟨ek0, hek0⟩, hf⟩ := glv_some hf
  have hlt0 := (h.1 _ _ hek0).1
  clear hek0 ek0
  have hle := h.2.2.2
  refine r_newI X h (lim := 3) (Nat.le_of_ble_eq_true rfl) (Nat.le_of_ble_eq_true rfl) (Nat.le_of_ble_eq_true rfl) dX2_init_117 hf (fun ad54 i56 μ55 H locs hf hag1 h => ?_)
  replace hl : lv_has ls 2 [(0, .ref (ad54 b0))] := by rw [hag1 b0 hlt0]; exact hl
  replace hag : ∀ i, i < μ0.1 → ad54 i = ad i := fun i hi => (hag1 i (Nat.lt_of_lt_of_le hi hle)).trans (hag i hi)
  refine W.eq (g2 := F0 m 119 ls [.ref (ad54 i56), .ref (ad54 b0)]) (by rw [hag1 b0 hlt0]) ?_
  clear hag1 hle hlt0
  obtain ⟨hlv, hf⟩ := glv_some hf
  refine r_putF X h (ci := 2) (k := 24) (C := RX2) (T := TX2) (N := 36) (ty0 := tyX2) (ty := .array .int) (v := .ref i56) rfl in_X2 tyX2_ok nmX2 (by decide) q1083 rfl rfl hnm rfl (by decide +kernel) rfl rfl (fun j hj => by cases hj; exact hlv) dX2_init_119 hf (fun μ57 H locs hf h => ?_)
  refine lv_aload_n X.hx X.hb dX2_init_122 rfl (lv_at hl 0 rfl) ?_
  refine lv_iconst (v := 3) X.hx X.hb dX2_init_123 (by decide) ?_
  obtain ⟨⟨ek0, hek0⟩, hf⟩ := glv_some hf
  have hlt0 := (h.1 _ _ hek0).1
  clear hek0 ek0
  have hle := h.2.2.2
  refine r_newI X h (lim := 3) (Nat.le_of_ble_eq_true rfl) (Nat.le_of_ble_eq_true rfl) (Nat.le_of_ble_eq_true rfl) dX2_init_124 hf (fun ad58 i60 μ59 H locs hf hag1 h => ?_)
  replace hl : lv_has ls 2 [(0, .ref (ad58 b0))] := by rw [hag1 b0 hlt0]; exact hl
  replace hag : ∀ i, i < μ0.1 → ad58 i = ad i := fun i hi => (hag1 i (Nat.lt_of_lt_of_le hi hle)).trans (hag i hi)
  refine W.eq (g2 := F0 m 126 ls [.ref (ad58 i60), .ref (ad58 b0)]) (by rw [hag1 b0 hlt0]) ?_
  clear hag1 hle hlt0
  obtain ⟨hlv, hf⟩ := glv_some hf
  refine r_putF X h (ci := 2) (k := 25) (C := RX2) (T := TX2) (N := 36) (ty0 := tyX2) (ty := .array .int) (v := .ref i60) rfl in_X2 tyX2_ok nmX2 (by decide) q1084 rfl rfl hnm rfl (by decide +kernel) rfl rfl (fun j hj => by cases hj; exact hlv) dX2_init_126 hf (fun μ61 H locs hf h => ?_)
  refine lv_aload_n X.hx X.hb dX2_init_129 rfl (lv_at hl 0 rfl) ?_
  refine lv_bipush (v := 27) X.hx X.hb dX2_init_130 (by decide) ?_
  obtain ⟨⟨ek0, hek0⟩, hf⟩ := glv_some hf
  have hlt0 := (h.1 _ _ hek0).1
  clear hek0 ek0
  have hle := h.2.2.2
  refine r_newI X h (lim := 27) (Nat.le_of_ble_eq_true rfl) (Nat.le_of_ble_eq_true rfl) (Nat.le_of_ble_eq_true rfl) dX2_init_132 hf (fun ad62 i64 μ63 H locs hf hag1 h => ?_)
  replace hl : lv_has ls 2 [(0, .ref (ad62 b0))] := by rw [hag1 b0 hlt0]; exact hl
  replace hag : ∀ i, i < μ0.1 → ad62 i = ad i := fun i hi => (hag1 i (Nat.lt_of_lt_of_le hi hle)).trans (hag i hi)
  refine W.eq (g2 := F0 m 134 ls [.ref (ad62 i64), .ref (ad62 b0)]) (by rw [hag1 b0 hlt0]) ?_
  clear hag1 hle hlt0
  obtain ⟨hlv, hf⟩ := glv_some hf
  refine r_putF X h (ci := 2) (k := 26) (C := RX2) (T := TX2) (N := 36) (ty0 := tyX2) (ty := .array .int) (v := .ref i64) rfl in_X2 tyX2_ok nmX2 (by decide) q1085 rfl rfl hnm rfl (by decide +kernel) rfl rfl (fun j hj => by cases hj; exact hlv) dX2_init_134 hf (fun μ65 H locs hf h => ?_)
  refine lv_aload_n X.hx X.hb dX2_init_137 rfl (lv_at hl 0 rfl) ?_
  refine lv_sipush (v := 1620) X.hx X.hb dX2_init_138 (by decide) ?_
  obtain ⟨⟨ek0, hek0⟩, hf⟩ := glv_some hf
  have hlt0 := (h.1 _ _ hek0).1
  clear hek0 ek0
  have hle := h.2.2.2
  refine r_newI X h (lim := 1620) (Nat.le_of_ble_eq_true rfl) (Nat.le_of_ble_eq_true rfl) (Nat.le_of_ble_eq_true rfl) dX2_init_141 hf (fun ad66 i68 μ67 H locs hf hag1 h => ?_)
  replace hl : lv_has ls 2 [(0, .ref (ad66 b0))] := by rw [hag1 b0 hlt0]; exact hl
  replace hag : ∀ i, i < μ0.1 → ad66 i = ad i := fun i hi => (hag1 i (Nat.lt_of_lt_of_le hi hle)).trans (hag i hi)
  refine W.eq (g2 := F0 m 143 ls [.ref (ad66 i68), .ref (ad66 b0)]) (by rw [hag1 b0 hlt0]) ?_
  clear hag1 hle hlt0
  obtain ⟨hlv, hf⟩ := glv_some hf
  refine r_putF X h (ci := 2) (k := 27) (C := RX2) (T := TX2) (N := 36) (ty0 := tyX2) (ty := .array .int) (v := .ref i68) rfl in_X2 tyX2_ok nmX2 (by decide) q1086 rfl rfl hnm rfl (by decide +kernel) rfl rfl (fun j hj => by cases hj; exact hlv) dX2_init_143 hf (fun μ69 H locs hf h => ?_)
  refine lv_aload_n X.hx X.hb dX2_init_146 rfl (lv_at hl 0 rfl) ?_
  refine lv_bipush (v := 12) X.hx X.hb dX2_init_147 (by decide) ?_
  obtain ⟨⟨ek0, hek0⟩, hf⟩ := glv_some hf
  have hlt0 := (h.1 _ _ hek0).1
  clear hek0 ek0
  have hle := h.2.2.2
  refine r_newI X h (lim := 12) (Nat.le_of_ble_eq_true rfl) (Nat.le_of_ble_eq_true rfl) (Nat.le_of_ble_eq_true rfl) dX2_init_149 hf (fun ad70 i72 μ71 H locs hf hag1 h => ?_)
  replace hl : lv_has ls 2 [(0, .ref (ad70 b0))] := by rw [hag1 b0 hlt0]; exact hl
  replace hag : ∀ i, i < μ0.1 → ad70 i = ad i := fun i hi => (hag1 i (Nat.lt_of_lt_of_le hi hle)).trans (hag i hi)
  refine W.eq (g2 := F0 m 151 ls [.ref (ad70 i72), .ref (ad70 b0)]) (by rw [hag1 b0 hlt0]) ?_
  clear hag1 hle hlt0
  obtain ⟨hlv, hf⟩ := glv_some hf
  refine r_putF X h (ci := 2) (k := 28) (C := RX2) (T := TX2) (N := 36) (ty0 := tyX2) (ty := .array .int) (v := .ref i72) rfl in_X2 tyX2_ok nmX2 (by decide) q1087 rfl rfl hnm rfl (by decide +kernel) rfl rfl (fun j hj => by cases hj; exact hlv) dX2_init_151 hf (fun μ73 H locs hf h => ?_)
  refine lv_aload_n X.hx X.hb dX2_init_154 rfl (lv_at hl 0 rfl) ?_
  refine lv_bipush (v := 12) X.hx X.hb dX2_init_155 (by decide) ?_
  obtain ⟨⟨ek0, hek0⟩, hf⟩ := glv_some hf
  have hlt0 := (h.1 _ _ hek0).1
  clear hek0 ek0
  have hle := h.2.2.2
  refine r_newI X h (lim := 12) (Nat.le_of_ble_eq_true rfl) (Nat.le_of_ble_eq_true rfl) (Nat.le_of_ble_eq_true rfl) dX2_init_157 hf (fun ad74 i76 μ75 H locs hf hag1 h => ?_)
  replace hl : lv_has ls 2 [(0, .ref (ad74 b0))] := by rw [hag1 b0 hlt0]; exact hl
  replace hag : ∀ i, i < μ0.1 → ad74 i = ad i := fun i hi => (hag1 i (Nat.lt_of_lt_of_le hi hle)).trans (hag i hi)
  refine W.eq (g2 := F0 m 159 ls [.ref (ad74 i76), .ref (ad74 b0)]) (by rw [hag1 b0 hlt0]) ?_
  clear hag1 hle hlt0
  obtain ⟨hlv, hf⟩ := glv_some hf
  refine r_putF X h (ci := 2) (k := 29) (C := RX2) (T := TX2) (N := 36) (ty0 := tyX2) (ty := .array .int) (v := .ref i76) rfl in_X2 tyX2_ok nmX2 (by decide) q1088 rfl rfl hnm rfl (by decide +kernel) rfl rfl (fun j hj => by cases hj; exact hlv) dX2_init_159 hf (fun μ77 H locs hf h => ?_)
  refine lv_aload_n X.hx X.hb dX2_init_162 rfl (lv_at hl 0 rfl) ?_
  refine lv_sipush (v := 7776) X.hx X.hb dX2_init_163 (by decide) ?_
  obtain ⟨⟨ek0, hek0⟩, hf⟩ := glv_some hf
  have hlt0 := (h.1 _ _ hek0).1
  clear hek0 ek0
  have hle := h.2.2.2
  refine r_newI X h (lim := 7776) (Nat.le_of_ble_eq_true rfl) (Nat.le_of_ble_eq_true rfl) (Nat.le_of_ble_eq_true rfl) dX2_init_166 hf (fun ad78 i80 μ79 H locs hf hag1 h => ?_)
  replace hl : lv_has ls 2 [(0, .ref (ad78 b0))] := by rw [hag1 b0 hlt0]; exact hl
  replace hag : ∀ i, i < μ0.1 → ad78 i = ad i := fun i hi => (hag1 i (Nat.lt_of_lt_of_le hi hle)).trans (hag i hi)
  refine W.eq (g2 := F0 m 168 ls [.ref (ad78 i80), .ref (ad78 b0)]) (by rw [hag1 b0 hlt0]) ?_
  clear hag1 hle hlt0
  obtain ⟨hlv, hf⟩ := glv_some hf
  refine r_putF X h (ci := 2) (k := 34) (C := RX2) (T := TX2) (N := 36) (ty0 := tyX2) (ty := .array .int) (v := .ref i80) rfl in_X2 tyX2_ok nmX2 (by decide) q1093 rfl rfl hnm rfl (by decide +kernel) rfl rfl (fun j hj => by cases hj; exact hlv) dX2_init_168 hf (fun μ81 H locs hf h => ?_)
  refine lv_aload_n X.hx X.hb dX2_init_171 rfl (lv_at hl 0 rfl) ?_
  refine lv_iconst (v := 1) X.hx X.hb dX2_init_172 (by decide) ?_
  refine r_put X h (ci := 2) (k := 10) (C := RX2) (T := TX2) (N := 36) (ty0 := tyX2) (ty := .int) (v := .int 1) rfl in_X2 tyX2_ok nmX2 (by decide) q1069 rfl rfl (by decide +kernel) rfl rfl (fun j hj => by cases hj) dX2_init_173 hf (fun μ82 H locs hf h => ?_)
  refine lv_iconst (v := 0) X.hx X.hb dX2_init_176 (by decide) ?_
  refine lv_istore_n (lv' := [(1, .int 0), (0, .ref (ad78 b0))]) X.hx X.hb dX2_init_177 rfl hl (by decide) rfl (fun ls hl => ?_)
  refine wX2_init_L178 l b0 _ X hr hlk (fun μ90 ad91 H locs ls hag hf h hl => ?_) 10000 _ _ _ _ _ _ hag hf h (lv_sub hl [1, 0] rfl)
  refine lv_iconst (v := 0) X.hx X.hb dX2_init_197 (by decide) ?_
  refine lv_istore_n (lv' := [(1, .int 0), (0, .ref (ad91 b0))]) X.hx X.hb dX2_init_198 rfl hl (by decide) rfl (fun ls hl => ?_)
  refine wX2_init_L199 l b0 X hr hlk 10000 _ _ _ _ _ _ hag hf h (lv_sub hl [1, 0] rfl)
/-! X2_add -/
def fX2_add (μ0 : gM) (b0 : Nat) (a1 : Int32) (a2 : Int32) (a3 : Int32) : gR := gP (gfld μ0 b0 2 20) fun i1 => gnm (((9 * a1) + a2)) fun x2 => gaI μ0 0 i1 x2 fun x3 => gsI μ0 0 i1 x2 (x3 + a3) fun μ4 => some (none, μ4)
set_option maxHeartbeats 4000000 in
theorem wX2_add (l : Launch) (Γ : gG) (ad : Nat → Nat) (μ0 : gM) (b0 : Nat) (a1 : Int32) (a2 : Int32) (a3 : Int32) (r : Option Value × gM) (hf : fX2_add μ0 b0 a1 a2 a3 = some r) : gMt0 l Γ yX2_add (ws_ yX2_add cX2_add 4 none) ({ frames := 0, cells := 0, slots := 0, locals := 0 } : Room) 0 0 ad μ0 [.ref (ad b0), .int a1, .int a2, .int a3] r := by
  intro sz
  refine g_start (maxL := 4) (ret := none) (by decide) rfl g_all (Nat.le_of_ble_eq_true rfl) ?_
  intro p e s m below meth c ls hr hlk hnm X h hl
  generalize gA ad μ0 sz = A at X h ⊢
  generalize ([.ref (ad b0), .int a1, .int a2, .int a3] : List Value).toArray = args at X ⊢
  have X : gX p m c cX2_add 4 s args "SandPianoModel" Γ A := X
  have hl : lv_has ls 4 [(0, .ref (ad b0)), (1, .int a1), (2, .int a2), (3, .int a3)] := hl
  show W p l e ({ frames := 0, cells := 0, slots := 0, locals := 0 } : Room) s m args below meth c s.heap [] 0 0 (MQ below (gQ0 Γ ad μ0.1 r A) args s 0 0 A) (F0 m 0 ls [])
  unfold fX2_add at hf
  refine lv_aload_n X.hx X.hb dX2_add_0 rfl (lv_at hl 0 rfl) ?_
  refine r_getP X h (ci := 2) (k := 20) (C := RX2) (T := TX2) (N := 36) rfl in_X2 (by decide) q1079 rfl dX2_add_1 hf (fun i1 hf => ?_)
  refine lv_bipush (v := 9) X.hx X.hb dX2_add_4 (by decide) ?_
  refine lv_iload_n X.hx X.hb dX2_add_6 rfl (lv_at hl 1 rfl) ?_
  refine lv_imul X.hx X.hb dX2_add_7 ?_
  refine lv_iload_n X.hx X.hb dX2_add_8 rfl (lv_at hl 2 rfl) ?_
  refine lv_iadd X.hx X.hb dX2_add_9 ?_
  refine r_nmI hf (fun x2 hf => ?_)
  refine lv_dup2_11 X.hx X.hb dX2_add_10 rfl rfl ?_
  refine r_iald X h dX2_add_11 hf (fun x3 hf => ?_)
  refine lv_iload_n X.hx X.hb dX2_add_12 rfl (lv_at hl 3 rfl) ?_
  refine lv_iadd X.hx X.hb dX2_add_13 ?_
  refine r_iast X h dX2_add_14 hf (fun μ4 H locs hf h => ?_)
  exact r_rv X h hr hlk (Nat.le_of_ble_eq_true rfl) (Nat.le_of_ble_eq_true rfl) dX2_add_15 hf
/-! X2_asked -/
def fX2_asked (μ0 : gM) (b0 : Nat) : gR := gI (gfld μ0 b0 2 2) fun x1 => some (some (.int x1), μ0)
set_option maxHeartbeats 4000000 in
theorem wX2_asked (l : Launch) (Γ : gG) (ad : Nat → Nat) (μ0 : gM) (b0 : Nat) (r : Option Value × gM) (hf : fX2_asked μ0 b0 = some r) : gMt0 l Γ yX2_asked (ws_ yX2_asked cX2_asked 1 (some .int)) ({ frames := 0, cells := 0, slots := 0, locals := 0 } : Room) 0 0 ad μ0 [.ref (ad b0)] r := by
  intro sz
  refine g_start (maxL := 1) (ret := (some .int)) (by decide) rfl g_all (Nat.le_of_ble_eq_true rfl) ?_
  intro p e s m below meth c ls hr hlk hnm X h hl
  generalize gA ad μ0 sz = A at X h ⊢
  generalize ([.ref (ad b0)] : List Value).toArray = args at X ⊢
  have X : gX p m c cX2_asked 1 s args "SandPianoModel" Γ A := X
  have hl : lv_has ls 1 [(0, .ref (ad b0))] := hl
  show W p l e ({ frames := 0, cells := 0, slots := 0, locals := 0 } : Room) s m args below meth c s.heap [] 0 0 (MQ below (gQ0 Γ ad μ0.1 r A) args s 0 0 A) (F0 m 0 ls [])
  unfold fX2_asked at hf
  refine lv_aload_n X.hx X.hb dX2_asked_0 rfl (lv_at hl 0 rfl) ?_
  refine r_getI X h (ci := 2) (k := 2) (C := RX2) (T := TX2) (N := 36) rfl in_X2 (by decide) q1061 rfl dX2_asked_1 hf (fun x1 hf => ?_)
  exact r_ri X h hr hlk (Nat.le_of_ble_eq_true rfl) (Nat.le_of_ble_eq_true rfl) dX2_asked_4 hf
/-! X2_in -/
def fX2_in (μ0 : gM) (a1 : Int32) (a2 : Int32) (a3 : Int32) : gR := if a1 < a2 then (rZ 0 μ0) else (if a3 < a1 then (rZ 0 μ0) else (rZ 1 μ0))
set_option maxHeartbeats 4000000 in
theorem wX2_in (l : Launch) (Γ : gG) (ad : Nat → Nat) (μ0 : gM) (a1 : Int32) (a2 : Int32) (a3 : Int32) (r : Option Value × gM) (hf : fX2_in μ0 a1 a2 a3 = some r) : gMt0 l Γ yX2_in (ws_ yX2_in cX2_in 3 (some .boolean)) ({ frames := 0, cells := 0, slots := 0, locals := 0 } : Room) 0 0 ad μ0 [.int a1, .int a2, .int a3] r := by
  intro sz
  refine g_start (maxL := 3) (ret := (some .boolean)) (by decide) rfl g_all (Nat.le_of_ble_eq_true rfl) ?_
  intro p e s m below meth c ls hr hlk hnm X h hl
  generalize gA ad μ0 sz = A at X h ⊢
  generalize ([.int a1, .int a2, .int a3] : List Value).toArray = args at X ⊢
  have X : gX p m c cX2_in 3 s args "SandPianoModel" Γ A := X
  have hl : lv_has ls 3 [(0, .int a1), (1, .int a2), (2, .int a3)] := hl
  show W p l e ({ frames := 0, cells := 0, slots := 0, locals := 0 } : Room) s m args below meth c s.heap [] 0 0 (MQ below (gQ0 Γ ad μ0.1 r A) args s 0 0 A) (F0 m 0 ls [])
  unfold fX2_in at hf
  refine lv_iload_n X.hx X.hb dX2_in_0 rfl (lv_at hl 0 rfl) ?_
  refine lv_iload_n X.hx X.hb dX2_in_1 rfl (lv_at hl 1 rfl) ?_
  refine lv_icmp_lt (tgt := 14) X.hx X.hb dX2_in_2 (by decide) (fun hc => ?_) (fun hc => ?_)
  · replace hf := gif_t hf hc
    clear hc
    refine lv_iconst (v := 0) X.hx X.hb dX2_in_14 (by decide) ?_
    exact r_rz X h hr hlk (Nat.le_of_ble_eq_true rfl) (Nat.le_of_ble_eq_true rfl) dX2_in_15 hf
  · replace hf := gif_f hf hc
    clear hc
    refine lv_iload_n X.hx X.hb dX2_in_5 rfl (lv_at hl 0 rfl) ?_
    refine lv_iload_n X.hx X.hb dX2_in_6 rfl (lv_at hl 2 rfl) ?_
    refine lv_icmp_gt (tgt := 14) X.hx X.hb dX2_in_7 (by decide) (fun hc => ?_) (fun hc => ?_)
    · replace hf := gif_t hf hc
      clear hc
      refine lv_iconst (v := 0) X.hx X.hb dX2_in_14 (by decide) ?_
      exact r_rz X h hr hlk (Nat.le_of_ble_eq_true rfl) (Nat.le_of_ble_eq_true rfl) dX2_in_15 hf
    · replace hf := gif_f hf hc
      clear hc
      refine lv_iconst (v := 1) X.hx X.hb dX2_in_10 (by decide) ?_
      refine lv_goto (tgt := 15) X.hx X.hb dX2_in_11 (by decide) ?_
      exact r_rz X h hr hlk (Nat.le_of_ble_eq_true rfl) (Nat.le_of_ble_eq_true rfl) dX2_in_15 hf
/-! X2_isRow -/
def fX2_isRow (μ0 : gM) (a1 : Int32) : gR := cI (fX2_in μ0 a1 0 5) fun x1 μ2 => rZ x1 μ2
set_option maxHeartbeats 4000000 in
theorem wX2_isRow (l : Launch) (Γ : gG) (ad : Nat → Nat) (μ0 : gM) (a1 : Int32) (r : Option Value × gM) (hf : fX2_isRow μ0 a1 = some r) : gMt0 l Γ yX2_isRow (ws_ yX2_isRow cX2_isRow 1 (some .boolean)) ({ frames := 1, cells := 0, slots := 0, locals := 22 } : Room) 0 0 ad μ0 [.int a1] r := by
  intro sz
  refine g_start (maxL := 1) (ret := (some .boolean)) (by decide) rfl g_all (Nat.le_of_ble_eq_true rfl) ?_
  intro p e s m below meth c ls hr hlk hnm X h hl
  generalize gA ad μ0 sz = A at X h ⊢
  generalize ([.int a1] : List Value).toArray = args at X ⊢
  have X : gX p m c cX2_isRow 1 s args "SandPianoModel" Γ A := X
  have hl : lv_has ls 1 [(0, .int a1)] := hl
  show W p l e ({ frames := 1, cells := 0, slots := 0, locals := 22 } : Room) s m args below meth c s.heap [] 0 0 (MQ below (gQ0 Γ ad μ0.1 r A) args s 0 0 A) (F0 m 0 ls [])
  unfold fX2_isRow at hf
  refine lv_iload_n X.hx X.hb dX2_isRow_0 rfl (lv_at hl 0 rfl) ?_
  refine lv_iconst (v := 0) X.hx X.hb dX2_isRow_1 (by decide) ?_
  refine lv_iconst (v := 5) X.hx X.hb dX2_isRow_2 (by decide) ?_
  refine r_cSI (As := [.int a1, .int 0, .int 5]) (rest := []) X h hf (fun res hres => wX2_in l Γ ad _ a1 0 5 res hres) (va_cwS 3 X.hts (lw_S q1177 q1178 q84 q1179) rfl rfl rfl (by decide +kernel) ⟨Nat.le_of_ble_eq_true rfl, Nat.le_of_ble_eq_true rfl⟩) rfl ⟨hl.1, Nat.le_of_ble_eq_true rfl, Nat.le_of_ble_eq_true rfl, Nat.le_of_ble_eq_true rfl⟩ rfl dX2_isRow_3 (fun x1 μ2 H locs hf h => ?_)
  exact r_rz X h hr hlk (Nat.le_of_ble_eq_true rfl) (Nat.le_of_ble_eq_true rfl) dX2_isRow_6 hf
/-! X2_meets -/
def fX2_meets (μ0 : gM) (b0 : Nat) (a1 : Int32) : gR := gpf μ0 b0 2 0 (.int a1) fun μ1 => gP (gfld μ1 b0 2 1) fun i2 => gaI μ1 0 i2 a1 fun x3 => gsI μ1 0 i2 a1 (x3 + 1) fun μ4 => some (some (.int (-3)), μ4)
set_option maxHeartbeats 4000000 in
theorem wX2_meets (l : Launch) (Γ : gG) (ad : Nat → Nat) (μ0 : gM) (b0 : Nat) (a1 : Int32) (r : Option Value × gM) (hf : fX2_meets μ0 b0 a1 = some r) : gMt0 l Γ yX2_meets (ws_ yX2_meets cX2_meets 2 (some .int)) ({ frames := 0, cells := 0, slots := 0, locals := 0 } : Room) 0 0 ad μ0 [.ref (ad b0), .int a1] r := by
  intro sz
  refine g_start (maxL := 2) (ret := (some .int)) (by decide) rfl g_all (Nat.le_of_ble_eq_true rfl) ?_
  intro p e s m below meth c ls hr hlk hnm X h hl
  generalize gA ad μ0 sz = A at X h ⊢
  generalize ([.ref (ad b0), .int a1] : List Value).toArray = args at X ⊢
  have X : gX p m c cX2_meets 2 s args "SandPianoModel" Γ A := X
  have hl : lv_has ls 2 [(0, .ref (ad b0)), (1, .int a1)] := hl
  show W p l e ({ frames := 0, cells := 0, slots := 0, locals := 0 } : Room) s m args below meth c s.heap [] 0 0 (MQ below (gQ0 Γ ad μ0.1 r A) args s 0 0 A) (F0 m 0 ls [])
  unfold fX2_meets at hf
  refine lv_aload_n X.hx X.hb dX2_meets_0 rfl (lv_at hl 0 rfl) ?_
  refine lv_iload_n X.hx X.hb dX2_meets_1 rfl (lv_at hl 1 rfl) ?_
  refine r_put X h (ci := 2) (k := 0) (C := RX2) (T := TX2) (N := 36) (ty0 := tyX2) (ty := .int) (v := .int a1) rfl in_X2 tyX2_ok nmX2 (by decide) q1059 rfl rfl (by decide +kernel) rfl rfl (fun j hj => by cases hj) dX2_meets_2 hf (fun μ1 H locs hf h => ?_)
  refine lv_aload_n X.hx X.hb dX2_meets_5 rfl (lv_at hl 0 rfl) ?_
  refine r_getP X h (ci := 2) (k := 1) (C := RX2) (T := TX2) (N := 36) rfl in_X2 (by decide) q1060 rfl dX2_meets_6 hf (fun i2 hf => ?_)
  refine lv_iload_n X.hx X.hb dX2_meets_9 rfl (lv_at hl 1 rfl) ?_
  refine lv_dup2_11 X.hx X.hb dX2_meets_10 rfl rfl ?_
  refine r_iald X h dX2_meets_11 hf (fun x3 hf => ?_)
  refine lv_iconst (v := 1) X.hx X.hb dX2_meets_12 (by decide) ?_
  refine lv_iadd X.hx X.hb dX2_meets_13 ?_
  refine r_iast X h dX2_meets_14 hf (fun μ4 H locs hf h => ?_)
  refine lv_bipush (v := (-3)) X.hx X.hb dX2_meets_15 (by decide) ?_
  exact r_ri X h hr hlk (Nat.le_of_ble_eq_true rfl) (Nat.le_of_ble_eq_true rfl) dX2_meets_17 hf
/-! X2_rowAt -/
def fX2_rowAt (μ0 : gM) (b0 : Nat) (a1 : Int32) (a2 : Int32) : gR := gP (gfld μ0 b0 2 6) fun i1 => gaI μ0 0 i1 ((40 * a1) + a2) fun x2 => some (some (.int x2), μ0)
set_option maxHeartbeats 4000000 in
theorem wX2_rowAt (l : Launch) (Γ : gG) (ad : Nat → Nat) (μ0 : gM) (b0 : Nat) (a1 : Int32) (a2 : Int32) (r : Option Value × gM) (hf : fX2_rowAt μ0 b0 a1 a2 = some r) : gMt0 l Γ yX2_rowAt (ws_ yX2_rowAt cX2_rowAt 3 (some .int)) ({ frames := 0, cells := 0, slots := 0, locals := 0 } : Room) 0 0 ad μ0 [.ref (ad b0), .int a1, .int a2] r := by
  intro sz
  refine g_start (maxL := 3) (ret := (some .int)) (by decide) rfl g_all (Nat.le_of_ble_eq_true rfl) ?_
  intro p e s m below meth c ls hr hlk hnm X h hl
  generalize gA ad μ0 sz = A at X h ⊢
  generalize ([.ref (ad b0), .int a1, .int a2] : List Value).toArray = args at X ⊢
  have X : gX p m c cX2_rowAt 3 s args "SandPianoModel" Γ A := X
  have hl : lv_has ls 3 [(0, .ref (ad b0)), (1, .int a1), (2, .int a2)] := hl
  show W p l e ({ frames := 0, cells := 0, slots := 0, locals := 0 } : Room) s m args below meth c s.heap [] 0 0 (MQ below (gQ0 Γ ad μ0.1 r A) args s 0 0 A) (F0 m 0 ls [])
  unfold fX2_rowAt at hf
  refine lv_aload_n X.hx X.hb dX2_rowAt_0 rfl (lv_at hl 0 rfl) ?_
  refine r_getP X h (ci := 2) (k := 6) (C := RX2) (T := TX2) (N := 36) rfl in_X2 (by decide) q1065 rfl dX2_rowAt_1 hf (fun i1 hf => ?_)
  refine lv_bipush (v := 40) X.hx X.hb dX2_rowAt_4 (by decide) ?_
  refine lv_iload_n X.hx X.hb dX2_rowAt_6 rfl (lv_at hl 1 rfl) ?_
  refine lv_imul X.hx X.hb dX2_rowAt_7 ?_
  refine lv_iload_n X.hx X.hb dX2_rowAt_8 rfl (lv_at hl 2 rfl) ?_
  refine lv_iadd X.hx X.hb dX2_rowAt_9 ?_
  refine r_iald X h dX2_rowAt_10 hf (fun x2 hf => ?_)
  exact r_ri X h hr hlk (Nat.le_of_ble_eq_true rfl) (Nat.le_of_ble_eq_true rfl) dX2_rowAt_11 hf
/-! X2_tells -/
def fX2_tells (μ0 : gM) (b0 : Nat) (a1 : Int32) (a2 : Int32) : gR := gpf μ0 b0 2 2 (.int a1) fun μ1 => some (some (.int a2), μ1)
set_option maxHeartbeats 4000000 in
theorem wX2_tells (l : Launch) (Γ : gG) (ad : Nat → Nat) (μ0 : gM) (b0 : Nat) (a1 : Int32) (a2 : Int32) (r : Option Value × gM) (hf : fX2_tells μ0 b0 a1 a2 = some r) : gMt0 l Γ yX2_tells (ws_ yX2_tells cX2_tells 3 (some .int)) ({ frames := 0, cells := 0, slots := 0, locals := 0 } : Room) 0 0 ad μ0 [.ref (ad b0), .int a1, .int a2] r := by
  intro sz
  refine g_start (maxL := 3) (ret := (some .int)) (by decide) rfl g_all (Nat.le_of_ble_eq_true rfl) ?_
  intro p e s m below meth c ls hr hlk hnm X h hl
  generalize gA ad μ0 sz = A at X h ⊢
  generalize ([.ref (ad b0), .int a1, .int a2] : List Value).toArray = args at X ⊢
  have X : gX p m c cX2_tells 3 s args "SandPianoModel" Γ A := X
  have hl : lv_has ls 3 [(0, .ref (ad b0)), (1, .int a1), (2, .int a2)] := hl
  show W p l e ({ frames := 0, cells := 0, slots := 0, locals := 0 } : Room) s m args below meth c s.heap [] 0 0 (MQ below (gQ0 Γ ad μ0.1 r A) args s 0 0 A) (F0 m 0 ls [])
  unfold fX2_tells at hf
  refine lv_aload_n X.hx X.hb dX2_tells_0 rfl (lv_at hl 0 rfl) ?_
  refine lv_iload_n X.hx X.hb dX2_tells_1 rfl (lv_at hl 1 rfl) ?_
  refine r_put X h (ci := 2) (k := 2) (C := RX2) (T := TX2) (N := 36) (ty0 := tyX2) (ty := .int) (v := .int a1) rfl in_X2 tyX2_ok nmX2 (by decide) q1061 rfl rfl (by decide +kernel) rfl rfl (fun j hj => by cases hj) dX2_tells_2 hf (fun μ1 H locs hf h => ?_)
  refine lv_iload_n X.hx X.hb dX2_tells_5 rfl (lv_at hl 2 rfl) ?_
  exact r_ri X h hr hlk (Nat.le_of_ble_eq_true rfl) (Nat.le_of_ble_eq_true rfl) dX2_tells_6 hf
/-! X2_at -/
def fX2_at (μ0 : gM) (b0 : Nat) (a1 : Int32) (a2 : Int32) : gR := cI (fX2_isRow μ0 a1) fun x1 μ2 => if x1 = 0 then (some (some (.int (-1)), μ2)) else (gP (gfld μ2 b0 2 5) fun i3 => gaI μ2 0 i3 a1 fun x4 => if 0 ≤ x4 then (gP (gfld μ2 b0 2 5) fun i5 => gaI μ2 0 i5 a1 fun x6 => cI (fX2_in μ2 a2 0 (x6 - 1)) fun x7 μ8 => if x7 = 0 then (gis μ8 b0 2 <| cI (fX2_meets μ8 b0 2) fun x9 μ10 => some (some (.int x9), μ10)) else (gis μ8 b0 2 <| cI (fX2_rowAt μ8 b0 a1 a2) fun x11 μ12 => gis μ12 b0 2 <| cI (fX2_tells μ12 b0 x11 1) fun x13 μ14 => some (some (.int x13), μ14))) else (gis μ2 b0 2 <| cI (fX2_meets μ2 b0 1) fun x15 μ16 => some (some (.int x15), μ16)))
set_option maxHeartbeats 4000000 in
theorem wX2_at (l : Launch) (Γ : gG) (ad : Nat → Nat) (μ0 : gM) (b0 : Nat) (a1 : Int32) (a2 : Int32) (r : Option Value × gM) (hf : fX2_at μ0 b0 a1 a2 = some r) : gMt0 l Γ yX2_at (ws_ yX2_at cX2_at 3 (some .int)) ({ frames := 2, cells := 0, slots := 0, locals := 42 } : Room) 0 0 ad μ0 [.ref (ad b0), .int a1, .int a2] r := by
  intro sz
  refine g_start (maxL := 3) (ret := (some .int)) (by decide) rfl g_all (Nat.le_of_ble_eq_true rfl) ?_
  intro p e s m below meth c ls hr hlk hnm X h hl
  generalize gA ad μ0 sz = A at X h ⊢
  generalize ([.ref (ad b0), .int a1, .int a2] : List Value).toArray = args at X ⊢
  have X : gX p m c cX2_at 3 s args "SandPianoModel" Γ A := X
  have hl : lv_has ls 3 [(0, .ref (ad b0)), (1, .int a1), (2, .int a2)] := hl
  show W p l e ({ frames := 2, cells := 0, slots := 0, locals := 42 } : Room) s m args below meth c s.heap [] 0 0 (MQ below (gQ0 Γ ad μ0.1 r A) args s 0 0 A) (F0 m 0 ls [])
  unfold fX2_at at hf
  refine lv_iload_n X.hx X.hb dX2_at_0 rfl (lv_at hl 1 rfl) ?_
  refine r_cSI (As := [.int a1]) (rest := []) X h hf (fun res hres => wX2_isRow l Γ ad _ a1 res hres) (va_cwS 1 X.hts (lw_S q1196 q1197 q84 q1198) rfl rfl rfl (by decide +kernel) ⟨Nat.le_of_ble_eq_true rfl, Nat.le_of_ble_eq_true rfl⟩) rfl ⟨hl.1, Nat.le_of_ble_eq_true rfl, Nat.le_of_ble_eq_true rfl, Nat.le_of_ble_eq_true rfl⟩ rfl dX2_at_1 (fun x1 μ2 H locs hf h => ?_)
  refine lv_if_ne (tgt := 9) X.hx X.hb dX2_at_4 (by decide) (fun hc => ?_) (fun hc => ?_)
  · replace hf := gif_f hf hc
    clear hc
    refine lv_aload_n X.hx X.hb dX2_at_9 rfl (lv_at hl 0 rfl) ?_
    refine r_getP X h (ci := 2) (k := 5) (C := RX2) (T := TX2) (N := 36) rfl in_X2 (by decide) q1064 rfl dX2_at_10 hf (fun i3 hf => ?_)
    refine lv_iload_n X.hx X.hb dX2_at_13 rfl (lv_at hl 1 rfl) ?_
    refine r_iald X h dX2_at_14 hf (fun x4 hf => ?_)
    refine lv_if_ge (tgt := 24) X.hx X.hb dX2_at_15 (by decide) (fun hc => ?_) (fun hc => ?_)
    · replace hf := gif_t hf hc
      clear hc
      refine lv_iload_n X.hx X.hb dX2_at_24 rfl (lv_at hl 2 rfl) ?_
      refine lv_iconst (v := 0) X.hx X.hb dX2_at_25 (by decide) ?_
      refine lv_aload_n X.hx X.hb dX2_at_26 rfl (lv_at hl 0 rfl) ?_
      refine r_getP X h (ci := 2) (k := 5) (C := RX2) (T := TX2) (N := 36) rfl in_X2 (by decide) q1064 rfl dX2_at_27 hf (fun i5 hf => ?_)
      refine lv_iload_n X.hx X.hb dX2_at_30 rfl (lv_at hl 1 rfl) ?_
      refine r_iald X h dX2_at_31 hf (fun x6 hf => ?_)
      refine lv_iconst (v := 1) X.hx X.hb dX2_at_32 (by decide) ?_
      refine lv_isub X.hx X.hb dX2_at_33 ?_
      refine r_cSI (As := [.int a2, .int 0, .int (x6 - 1)]) (rest := []) X h hf (fun res hres => wX2_in l Γ ad _ a2 0 (x6 - 1) res hres) (va_cwS 3 X.hts (lw_S q1177 q1178 q84 q1179) rfl rfl rfl (by decide +kernel) ⟨Nat.le_of_ble_eq_true rfl, Nat.le_of_ble_eq_true rfl⟩) rfl ⟨hl.1, Nat.le_of_ble_eq_true rfl, Nat.le_of_ble_eq_true rfl, Nat.le_of_ble_eq_true rfl⟩ rfl dX2_at_34 (fun x7 μ8 H locs hf h => ?_)
      refine lv_if_eq (tgt := 54) X.hx X.hb dX2_at_37 (by decide) (fun hc => ?_) (fun hc => ?_)
      · replace hf := gif_t hf hc
        clear hc
        refine lv_aload_n X.hx X.hb dX2_at_54 rfl (lv_at hl 0 rfl) ?_
        refine lv_iconst (v := 2) X.hx X.hb dX2_at_55 (by decide) ?_
        refine r_cVI (As := [.int 2]) (rest := []) (C := RX2) (T := TX2) (N := 36) X h hf (fun res hres => wX2_meets l Γ ad _ b0 2 res hres) rfl (cwV 1 X.hts (lw_V q1199 q1201 qs38 q84 q1202) rfl rfl rfl (by decide +kernel) ⟨Nat.le_of_ble_eq_true rfl, Nat.le_of_ble_eq_true rfl⟩) rfl ⟨hl.1, Nat.le_of_ble_eq_true rfl, Nat.le_of_ble_eq_true rfl, Nat.le_of_ble_eq_true rfl⟩ rfl dX2_at_56 (fun x9 μ10 H locs hf h => ?_)
        exact r_ri X h hr hlk (Nat.le_of_ble_eq_true rfl) (Nat.le_of_ble_eq_true rfl) dX2_at_59 hf
      · replace hf := gif_f hf hc
        clear hc
        refine lv_aload_n X.hx X.hb dX2_at_40 rfl (lv_at hl 0 rfl) ?_
        refine lv_aload_n X.hx X.hb dX2_at_41 rfl (lv_at hl 0 rfl) ?_
        refine lv_iload_n X.hx X.hb dX2_at_42 rfl (lv_at hl 1 rfl) ?_
        refine lv_iload_n X.hx X.hb dX2_at_43 rfl (lv_at hl 2 rfl) ?_
        refine r_cVI (As := [.int a1, .int a2]) (rest := [.ref (ad b0)]) (C := RX2) (T := TX2) (N := 36) X h hf (fun res hres => wX2_rowAt l Γ ad _ b0 a1 a2 res hres) rfl (cwV 2 X.hts (lw_V q1207 q1209 qs39 q84 q1210) rfl rfl rfl (by decide +kernel) ⟨Nat.le_of_ble_eq_true rfl, Nat.le_of_ble_eq_true rfl⟩) rfl ⟨hl.1, Nat.le_of_ble_eq_true rfl, Nat.le_of_ble_eq_true rfl, Nat.le_of_ble_eq_true rfl⟩ rfl dX2_at_44 (fun x11 μ12 H locs hf h => ?_)
        refine lv_iconst (v := 1) X.hx X.hb dX2_at_47 (by decide) ?_
        refine r_cVI (As := [.int x11, .int 1]) (rest := []) (C := RX2) (T := TX2) (N := 36) X h hf (fun res hres => wX2_tells l Γ ad _ b0 x11 1 res hres) rfl (cwV 2 X.hts (lw_V q1211 q1213 qs40 q84 q1214) rfl rfl rfl (by decide +kernel) ⟨Nat.le_of_ble_eq_true rfl, Nat.le_of_ble_eq_true rfl⟩) rfl ⟨hl.1, Nat.le_of_ble_eq_true rfl, Nat.le_of_ble_eq_true rfl, Nat.le_of_ble_eq_true rfl⟩ rfl dX2_at_48 (fun x13 μ14 H locs hf h => ?_)
        refine lv_goto (tgt := 59) X.hx X.hb dX2_at_51 (by decide) ?_
        exact r_ri X h hr hlk (Nat.le_of_ble_eq_true rfl) (Nat.le_of_ble_eq_true rfl) dX2_at_59 hf
    · replace hf := gif_f hf hc
      clear hc
      refine lv_aload_n X.hx X.hb dX2_at_18 rfl (lv_at hl 0 rfl) ?_
      refine lv_iconst (v := 1) X.hx X.hb dX2_at_19 (by decide) ?_
      refine r_cVI (As := [.int 1]) (rest := []) (C := RX2) (T := TX2) (N := 36) X h hf (fun res hres => wX2_meets l Γ ad _ b0 1 res hres) rfl (cwV 1 X.hts (lw_V q1199 q1201 qs38 q84 q1202) rfl rfl rfl (by decide +kernel) ⟨Nat.le_of_ble_eq_true rfl, Nat.le_of_ble_eq_true rfl⟩) rfl ⟨hl.1, Nat.le_of_ble_eq_true rfl, Nat.le_of_ble_eq_true rfl, Nat.le_of_ble_eq_true rfl⟩ rfl dX2_at_20 (fun x15 μ16 H locs hf h => ?_)
      exact r_ri X h hr hlk (Nat.le_of_ble_eq_true rfl) (Nat.le_of_ble_eq_true rfl) dX2_at_23 hf
  · replace hf := gif_t hf hc
    clear hc
    refine lv_iconst (v := (-1)) X.hx X.hb dX2_at_7 (by decide) ?_
    exact r_ri X h hr hlk (Nat.le_of_ble_eq_true rfl) (Nat.le_of_ble_eq_true rfl) dX2_at_8 hf
/-! X2_v -/
def fX2_v (μ0 : gM) (b0 : Nat) (a1 : Int32) (a2 : Int32) : gR := gP (gfld μ0 b0 2 20) fun i1 => gaI μ0 0 i1 ((9 * a1) + a2) fun x2 => some (some (.int x2), μ0)
set_option maxHeartbeats 4000000 in
theorem wX2_v (l : Launch) (Γ : gG) (ad : Nat → Nat) (μ0 : gM) (b0 : Nat) (a1 : Int32) (a2 : Int32) (r : Option Value × gM) (hf : fX2_v μ0 b0 a1 a2 = some r) : gMt0 l Γ yX2_v (ws_ yX2_v cX2_v 3 (some .int)) ({ frames := 0, cells := 0, slots := 0, locals := 0 } : Room) 0 0 ad μ0 [.ref (ad b0), .int a1, .int a2] r := by
  intro sz
  refine g_start (maxL := 3) (ret := (some .int)) (by decide) rfl g_all (Nat.le_of_ble_eq_true rfl) ?_
  intro p e s m below meth c ls hr hlk hnm X h hl
  generalize gA ad μ0 sz = A at X h ⊢
  generalize ([.ref (ad b0), .int a1, .int a2] : List Value).toArray = args at X ⊢
  have X : gX p m c cX2_v 3 s args "SandPianoModel" Γ A := X
  have hl : lv_has ls 3 [(0, .ref (ad b0)), (1, .int a1), (2, .int a2)] := hl
  show W p l e ({ frames := 0, cells := 0, slots := 0, locals := 0 } : Room) s m args below meth c s.heap [] 0 0 (MQ below (gQ0 Γ ad μ0.1 r A) args s 0 0 A) (F0 m 0 ls [])
  unfold fX2_v at hf
  refine lv_aload_n X.hx X.hb dX2_v_0 rfl (lv_at hl 0 rfl) ?_
  refine r_getP X h (ci := 2) (k := 20) (C := RX2) (T := TX2) (N := 36) rfl in_X2 (by decide) q1079 rfl dX2_v_1 hf (fun i1 hf => ?_)
  refine lv_bipush (v := 9) X.hx X.hb dX2_v_4 (by decide) ?_
  refine lv_iload_n X.hx X.hb dX2_v_6 rfl (lv_at hl 1 rfl) ?_
  refine lv_imul X.hx X.hb dX2_v_7 ?_
  refine lv_iload_n X.hx X.hb dX2_v_8 rfl (lv_at hl 2 rfl) ?_
  refine lv_iadd X.hx X.hb dX2_v_9 ?_
  refine r_iald X h dX2_v_10 hf (fun x2 hf => ?_)
  exact r_ri X h hr hlk (Nat.le_of_ble_eq_true rfl) (Nat.le_of_ble_eq_true rfl) dX2_v_11 hf
/-! X2_canPlay -/
def fX2_canPlay (μ0 : gM) (b0 : Nat) (a1 : Int32) (a2 : Int32) : gR := gP (gfld μ0 b0 2 12) fun i1 => gaI μ0 0 i1 a2 fun x2 => gjn (fun  (μ3 : gM) => rZ 1 μ3) fun j4 => if x2 = 5 then (j4 μ0) else (gis μ0 b0 2 <| cI (fX2_v μ0 b0 a1 a2) fun x5 μ6 => gP (gfld μ6 b0 2 13) fun i7 => gaI μ6 0 i7 a2 fun x8 => gjn (fun (x9 : Int32) (μ10 : gM) => if (x8 + x9) < x5 then (rZ 0 μ10) else (j4 μ10)) fun j11 => if x2 = 2 then (j11 2 μ6) else (j11 0 μ6))
set_option maxHeartbeats 4000000 in
theorem wX2_canPlay (l : Launch) (Γ : gG) (ad : Nat → Nat) (μ0 : gM) (b0 : Nat) (a1 : Int32) (a2 : Int32) (r : Option Value × gM) (hf : fX2_canPlay μ0 b0 a1 a2 = some r) : gMt0 l Γ yX2_canPlay (ws_ yX2_canPlay cX2_canPlay 4 (some .boolean)) ({ frames := 1, cells := 0, slots := 0, locals := 22 } : Room) 0 0 ad μ0 [.ref (ad b0), .int a1, .int a2] r := by
  intro sz
  refine g_start (maxL := 4) (ret := (some .boolean)) (by decide) rfl g_all (Nat.le_of_ble_eq_true rfl) ?_
  intro p e s m below meth c ls hr hlk hnm X h hl
  generalize gA ad μ0 sz = A at X h ⊢
  generalize ([.ref (ad b0), .int a1, .int a2] : List Value).toArray = args at X ⊢
  have X : gX p m c cX2_canPlay 4 s args "SandPianoModel" Γ A := X
  have hl : lv_has ls 4 [(0, .ref (ad b0)), (1, .int a1), (2, .int a2)] := hl
  show W p l e ({ frames := 1, cells := 0, slots := 0, locals := 22 } : Room) s m args below meth c s.heap [] 0 0 (MQ below (gQ0 Γ ad μ0.1 r A) args s 0 0 A) (F0 m 0 ls [])
  unfold fX2_canPlay at hf
  refine lv_aload_n X.hx X.hb dX2_canPlay_0 rfl (lv_at hl 0 rfl) ?_
  refine r_getP X h (ci := 2) (k := 12) (C := RX2) (T := TX2) (N := 36) rfl in_X2 (by decide) q1071 rfl dX2_canPlay_1 hf (fun i1 hf => ?_)
  refine lv_iload_n X.hx X.hb dX2_canPlay_4 rfl (lv_at hl 2 rfl) ?_
  refine r_iald X h dX2_canPlay_5 hf (fun x2 hf => ?_)
  refine lv_istore_n (lv' := [(3, .int x2), (0, .ref (ad b0)), (1, .int a1), (2, .int a2)]) X.hx X.hb dX2_canPlay_6 rfl hl (by decide) rfl (fun ls hl => ?_)
  refine lv_iload_n X.hx X.hb dX2_canPlay_7 rfl (lv_at hl 0 rfl) ?_
  refine lv_iconst (v := 5) X.hx X.hb dX2_canPlay_8 (by decide) ?_
  refine r_jn hf (fun j4 ej4 hf => ?_)
  have hj4 : ∀  (μ3 : gM) (H : Heap) (locs : List Loc) (ls : Array Slot), j4  μ3 = some r → gWd Γ A μ0.1 ad μ3 s.heap H locs → lv_has ls 4 [] → W p l e ({ frames := 1, cells := 0, slots := 0, locals := 22 } : Room) s m args below meth c H locs 0 0 (MQ below (gQ0 Γ ad μ0.1 r A) args s 0 0 A) (F0 m 38 ls []) := by
    intro μ3 H locs ls hf h hl
    rw [ej4] at hf
    refine lv_iconst (v := 1) X.hx X.hb dX2_canPlay_38 (by decide) ?_
    refine lv_goto (tgt := 43) X.hx X.hb dX2_canPlay_39 (by decide) ?_
    exact r_rz X h hr hlk (Nat.le_of_ble_eq_true rfl) (Nat.le_of_ble_eq_true rfl) dX2_canPlay_43 hf
  clear ej4
  refine lv_icmp_eq (tgt := 38) X.hx X.hb dX2_canPlay_9 (by decide) (fun hc => ?_) (fun hc => ?_)
  · replace hf := gif_t hf hc
    clear hc
    exact hj4 _ _ _ _ hf h (lv_sub hl [] rfl)
  · replace hf := gif_f hf hc
    clear hc
    refine lv_aload_n X.hx X.hb dX2_canPlay_12 rfl (lv_at hl 1 rfl) ?_
    refine lv_iload_n X.hx X.hb dX2_canPlay_13 rfl (lv_at hl 2 rfl) ?_
    refine lv_iload_n X.hx X.hb dX2_canPlay_14 rfl (lv_at hl 3 rfl) ?_
    refine r_cVI (As := [.int a1, .int a2]) (rest := []) (C := RX2) (T := TX2) (N := 36) X h hf (fun res hres => wX2_v l Γ ad _ b0 a1 a2 res hres) rfl (cwV 2 X.hts (lw_V q1289 q1291 qs49 q84 q1292) rfl rfl rfl (by decide +kernel) ⟨Nat.le_of_ble_eq_true rfl, Nat.le_of_ble_eq_true rfl⟩) rfl ⟨hl.1, Nat.le_of_ble_eq_true rfl, Nat.le_of_ble_eq_true rfl, Nat.le_of_ble_eq_true rfl⟩ rfl dX2_canPlay_15 (fun x5 μ6 H locs hf h => ?_)
    refine lv_aload_n X.hx X.hb dX2_canPlay_18 rfl (lv_at hl 1 rfl) ?_
    refine r_getP X h (ci := 2) (k := 13) (C := RX2) (T := TX2) (N := 36) rfl in_X2 (by decide) q1072 rfl dX2_canPlay_19 hf (fun i7 hf => ?_)
    refine lv_iload_n X.hx X.hb dX2_canPlay_22 rfl (lv_at hl 3 rfl) ?_
    refine r_iald X h dX2_canPlay_23 hf (fun x8 hf => ?_)
    refine lv_iload_n X.hx X.hb dX2_canPlay_24 rfl (lv_at hl 0 rfl) ?_
    refine lv_iconst (v := 2) X.hx X.hb dX2_canPlay_25 (by decide) ?_
    refine r_jn hf (fun j11 ej11 hf => ?_)
    have hj11 : ∀ (x9 : Int32) (μ10 : gM) (H : Heap) (locs : List Loc) (ls : Array Slot), j11 x9 μ10 = some r → gWd Γ A μ0.1 ad μ10 s.heap H locs → lv_has ls 4 [] → W p l e ({ frames := 1, cells := 0, slots := 0, locals := 22 } : Room) s m args below meth c H locs 0 0 (MQ below (gQ0 Γ ad μ0.1 r A) args s 0 0 A) (F0 m 34 ls [.int x9, .int x8, .int x5]) := by
      intro x9 μ10 H locs ls hf h hl
      rw [ej11] at hf
      refine lv_iadd X.hx X.hb dX2_canPlay_34 ?_
      refine lv_icmp_gt (tgt := 42) X.hx X.hb dX2_canPlay_35 (by decide) (fun hc => ?_) (fun hc => ?_)
      · replace hf := gif_t hf hc
        clear hc
        refine lv_iconst (v := 0) X.hx X.hb dX2_canPlay_42 (by decide) ?_
        exact r_rz X h hr hlk (Nat.le_of_ble_eq_true rfl) (Nat.le_of_ble_eq_true rfl) dX2_canPlay_43 hf
      · replace hf := gif_f hf hc
        clear hc
        exact hj4 _ _ _ _ hf h (lv_sub hl [] rfl)
    clear ej11
    refine lv_icmp_ne (tgt := 33) X.hx X.hb dX2_canPlay_26 (by decide) (fun hc => ?_) (fun hc => ?_)
    · replace hf := gif_f hf hc
      clear hc
      refine lv_iconst (v := 0) X.hx X.hb dX2_canPlay_33 (by decide) ?_
      exact hj11 _ _ _ _ _ hf h (lv_sub hl [] rfl)
    · replace hf := gif_t hf hc
      clear hc
      refine lv_iconst (v := 2) X.hx X.hb dX2_canPlay_29 (by decide) ?_
      refine lv_goto (tgt := 34) X.hx X.hb dX2_canPlay_30 (by decide) ?_
      exact hj11 _ _ _ _ _ hf h (lv_sub hl [] rfl)
/-! X2_place -/
def fX2_place (μ0 : gM) (b0 : Nat) (a1 : Int32) (a2 : Int32) (a3 : Int32) : gR := gP (gfld μ0 b0 2 20) fun i1 => gsI μ0 0 i1 ((9 * a1) + a2) a3 fun μ2 => some (none, μ2)
set_option maxHeartbeats 4000000 in
theorem wX2_place (l : Launch) (Γ : gG) (ad : Nat → Nat) (μ0 : gM) (b0 : Nat) (a1 : Int32) (a2 : Int32) (a3 : Int32) (r : Option Value × gM) (hf : fX2_place μ0 b0 a1 a2 a3 = some r) : gMt0 l Γ yX2_place (ws_ yX2_place cX2_place 4 none) ({ frames := 0, cells := 0, slots := 0, locals := 0 } : Room) 0 0 ad μ0 [.ref (ad b0), .int a1, .int a2, .int a3] r := by
  intro sz
  refine g_start (maxL := 4) (ret := none) (by decide) rfl g_all (Nat.le_of_ble_eq_true rfl) ?_
  intro p e s m below meth c ls hr hlk hnm X h hl
  generalize gA ad μ0 sz = A at X h ⊢
  generalize ([.ref (ad b0), .int a1, .int a2, .int a3] : List Value).toArray = args at X ⊢
  have X : gX p m c cX2_place 4 s args "SandPianoModel" Γ A := X
  have hl : lv_has ls 4 [(0, .ref (ad b0)), (1, .int a1), (2, .int a2), (3, .int a3)] := hl
  show W p l e ({ frames := 0, cells := 0, slots := 0, locals := 0 } : Room) s m args below meth c s.heap [] 0 0 (MQ below (gQ0 Γ ad μ0.1 r A) args s 0 0 A) (F0 m 0 ls [])
  unfold fX2_place at hf
  refine lv_aload_n X.hx X.hb dX2_place_0 rfl (lv_at hl 0 rfl) ?_
  refine r_getP X h (ci := 2) (k := 20) (C := RX2) (T := TX2) (N := 36) rfl in_X2 (by decide) q1079 rfl dX2_place_1 hf (fun i1 hf => ?_)
  refine lv_bipush (v := 9) X.hx X.hb dX2_place_4 (by decide) ?_
  refine lv_iload_n X.hx X.hb dX2_place_6 rfl (lv_at hl 1 rfl) ?_
  refine lv_imul X.hx X.hb dX2_place_7 ?_
  refine lv_iload_n X.hx X.hb dX2_place_8 rfl (lv_at hl 2 rfl) ?_
  refine lv_iadd X.hx X.hb dX2_place_9 ?_
  refine lv_iload_n X.hx X.hb dX2_place_10 rfl (lv_at hl 3 rfl) ?_
  refine r_iast X h dX2_place_11 hf (fun μ2 H locs hf h => ?_)
  exact r_rv X h hr hlk (Nat.le_of_ble_eq_true rfl) (Nat.le_of_ble_eq_true rfl) dX2_place_12 hf
