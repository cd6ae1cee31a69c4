set_option maxRecDepth 100000
/-! X1_init -/
def fX1_init (μ0 : gM) (b0 : Nat) : gR := glv μ0 b0 <| gna μ0 0 9 9 fun μ2 i3 => glv μ2 i3 <| gpf μ2 b0 1 0 (.ref i3) fun μ4 => some (none, μ4)
set_option maxHeartbeats 4000000 in
theorem wX1_init (l : Launch) (Γ : gG) (ad : Nat → Nat) (μ0 : gM) (b0 : Nat) (r : Option Value × gM) (hf : fX1_init μ0 b0 = some r) : gMt1 l Γ yX1_init (ws_ yX1_init cX1_init 1 none) ({ frames := 1, cells := 1, slots := 9, locals := 20 } : Room) 1 9 ad μ0 [.ref (ad b0)] r := by
  intro sz
  refine g_start (maxL := 1) (ret := none) (by decide) rfl g_all (Nat.le_of_ble_eq_true rfl) ?_
  intro p e s m below meth c ls hr hlk hnm X h hl
  generalize gA ad μ0 sz = A at X h ⊢
  generalize ([.ref (ad b0)] : List Value).toArray = args at X ⊢
  have X : gX p m c cX1_init 1 s args "SandPiano$Sands" Γ A := X
  have hl : lv_has ls 1 [(0, .ref (ad b0))] := hl
  show W p l e ({ frames := 1, cells := 1, slots := 9, locals := 20 } : Room) s m args below meth c s.heap [] 0 0 (MQ below (gQ1 Γ ad μ0.1 r A) args s 1 9 A) (F0 m 0 ls [])
  unfold fX1_init at hf
  have hag : ∀ i, i < μ0.1 → ad i = ad i := fun _ _ => rfl
  refine lv_aload_n X.hx X.hb dX1_init_0 rfl (lv_at hl 0 rfl) ?_
  refine W.objInit X.hx X.hb X.hown (X.hts _ q124) (X.hts _ q111) (X.hts _ q112) rfl (by rw [X.hml]; exact hl.1) rfl dX1_init_1 (Nat.le_of_ble_eq_true rfl) (Nat.le_of_ble_eq_true rfl) ?_
  refine W.eq (g2 := F0 m 4 ls []) rfl ?_
  refine lv_aload_n X.hx X.hb dX1_init_4 rfl (lv_at hl 0 rfl) ?_
  refine lv_bipush (v := 9) X.hx X.hb dX1_init_5 (by decide) ?_
  obtain ⟨⟨ek0, hek0⟩, hf⟩ := glv_some hf
  have hlt0 := (h.1 _ _ hek0).1
  clear hek0 ek0
  have hle := h.2.2.2
  refine r_newI X h (lim := 9) (Nat.le_of_ble_eq_true rfl) (Nat.le_of_ble_eq_true rfl) (Nat.le_of_ble_eq_true rfl) dX1_init_7 hf (fun ad1 i3 μ2 H locs hf hag1 h => ?_)
  replace hl : lv_has ls 1 [(0, .ref (ad1 b0))] := by rw [hag1 b0 hlt0]; exact hl
  replace hag : ∀ i, i < μ0.1 → ad1 i = ad i := fun i hi => (hag1 i (Nat.lt_of_lt_of_le hi hle)).trans (hag i hi)
  refine W.eq (g2 := F0 m 9 ls [.ref (ad1 i3), .ref (ad1 b0)]) (by rw [hag1 b0 hlt0]) ?_
  clear hag1 hle hlt0
  obtain ⟨hlv, hf⟩ := glv_some hf
  refine r_putF X h (ci := 1) (k := 0) (C := RX1) (T := TX1) (N := 1) (ty0 := tyX1) (ty := .array .int) (v := .ref i3) rfl in_X1 tyX1_ok nmX1 (by decide) q125 rfl rfl hnm rfl (by decide +kernel) rfl rfl (fun j hj => by cases hj; exact hlv) dX1_init_9 hf (fun μ4 H locs hf h => ?_)
  exact r_rv1 X h hag hr hlk (Nat.le_of_ble_eq_true rfl) (Nat.le_of_ble_eq_true rfl) dX1_init_12 hf
/-! X0_newDepth -/
def fX0_newDepth_L8 (i3 : Nat) : Nat → Int32 → gM → gR
  | 0, _, _ => none
  | n6 + 1, x4, μ5 => if 6 < x4 then (some (some (.ref i3), μ5)) else (glv μ5 i3 <| gno μ5 1 [.null] fun μ9 i10 => glv μ9 i3 <| glv μ9 i10 <| cV (fX1_init μ9 i10) fun μ11 => gis μ11 i10 1 <| gsQ μ11 7 i3 x4 (some i10) fun μ13 => gnm (x4 + 1) fun x14 => fX0_newDepth_L8 i3 n6 x14 μ13)
set_option maxHeartbeats 4000000 in
theorem wX0_newDepth_L8 {p : Program} {e : Env} {s : State} {m : MethodId} {args : Array Value} {below : List Frame} {meth : Method} {c : Code} {Γ : gG} {A : Nat → Prop} {nz : Nat} {ad : Nat → Nat} {r : Option Value × gM} (l : Launch) (i3 : Nat) (X : gX p m c cX0_newDepth 2 s args "SandPiano" Γ A) (hr : meth.sig.returnType = (some (.array (.object "SandPiano$Sands")))) (hlk : meth.locks = false) : ∀ (n6 : Nat) (kc ks : Nat) (x4 : Int32) (μ5 : gM) (ad7 : Nat → Nat) (H : Heap) (locs : List Loc) (ls : Array Slot), kc + n6 * 2 ≤ 17 → ks + n6 * 10 ≤ 87 → (∀ i, i < nz → ad7 i = ad i) → fX0_newDepth_L8 i3 n6 x4 μ5 = some r → gWd Γ A nz ad7 μ5 s.heap H locs → lv_has ls 2 [(0, .ref (ad7 i3)), (1, .int x4)] → W p l e ({ frames := 2, cells := 17, slots := 87, locals := 40 } : Room) s m args below meth c H locs kc ks (MQ below (gQ1 Γ ad nz r A) args s 17 87 A) (F0 m 8 ls []) := by
  intro n6
  induction n6 with
  | zero =>
    intro kc ks x4 μ5 ad7 H locs ls hkc hks hag hf h hl
    have hf : (none : gR) = some r := hf
    cases hf
  | succ n6 ih =>
    intro kc ks x4 μ5 ad7 H locs ls hkc hks hag hf h hl
    rw [fX0_newDepth_L8] at hf
    refine lv_iload_n X.hx X.hb dX0_newDepth_8 rfl (lv_at hl 1 rfl) ?_
    refine lv_bipush (v := 6) X.hx X.hb dX0_newDepth_9 (by decide) ?_
    refine lv_icmp_gt (tgt := 30) X.hx X.hb dX0_newDepth_11 (by decide) (fun hc => ?_) (fun hc => ?_)
    · replace hf := gif_t hf hc
      clear hc
      refine lv_aload_n X.hx X.hb dX0_newDepth_30 rfl (lv_at hl 0 rfl) ?_
      exact r_ra1 X h hag hr (Or.inr ⟨_, rfl⟩) hlk ((by first | exact Nat.le_of_ble_eq_true rfl | omega | (dsimp only; omega))) ((by first | exact Nat.le_of_ble_eq_true rfl | omega | (dsimp only; omega))) dX0_newDepth_31 hf
    · replace hf := gif_f hf hc
      clear hc
      refine lv_aload_n X.hx X.hb dX0_newDepth_14 rfl (lv_at hl 0 rfl) ?_
      refine lv_iload_n X.hx X.hb dX0_newDepth_15 rfl (lv_at hl 1 rfl) ?_
      obtain ⟨⟨ek0, hek0⟩, hf⟩ := glv_some hf
      have hlt0 := (h.1 _ _ hek0).1
      clear hek0 ek0
      have hle := h.2.2.2
      refine r_newO X h (C := RX1) (T := TX1) (N := 1) (ty := tyX1) rfl in_X1 tyX1_ok q119 q120 q83 (fun j hj => by rcases (show j = 0 by omega) with rfl <;> rfl) (by intro v hv j; simp only [List.mem_cons, List.not_mem_nil, or_false] at hv; rcases hv with rfl <;> exact fun h9 => by cases h9) ((by first | exact Nat.le_of_ble_eq_true rfl | omega | (dsimp only; omega))) ((by first | exact Nat.le_of_ble_eq_true rfl | omega | (dsimp only; omega))) dX0_newDepth_16 hf (fun ad8 i10 μ9 H locs hf hag1 h => ?_)
      replace hl : lv_has ls 2 [(0, .ref (ad8 i3)), (1, .int x4)] := by rw [hag1 i3 hlt0]; exact hl
      replace hag : ∀ i, i < nz → ad8 i = ad i := fun i hi => (hag1 i (Nat.lt_of_lt_of_le hi hle)).trans (hag i hi)
      refine W.eq (g2 := F0 m 19 ls [.ref (ad8 i10), .int x4, .ref (ad8 i3)]) (by rw [hag1 i3 hlt0]) ?_
      clear hag1 hle hlt0
      refine lv_dup X.hx X.hb dX0_newDepth_19 rfl ?_
      obtain ⟨⟨ek0, hek0⟩, hf⟩ := glv_some hf
      have hlt0 := (h.1 _ _ hek0).1
      clear hek0 ek0
      obtain ⟨⟨ek1, hek1⟩, hf⟩ := glv_some hf
      have hlt1 := (h.1 _ _ hek1).1
      clear hek1 ek1
      have hle := h.2.2.2
      refine r_cX1 X h (rest := [.ref (ad8 i10), .int x4, .ref (ad8 i3)]) (mc := 1) (ms := 9) hf (fun res hres => ⟨_, g_runIN (i := i10) (As := []) X h (wX1_init l Γ ad8 _ i10 res hres _) (⟨va_cnB 0 X.hts (lw_meth q123) rfl rfl rfl (X.2.1.2.1 0 _ rfl) (X.hts _ q83) (by decide +kernel) ⟨(by first | exact Nat.le_of_ble_eq_true rfl | omega | (dsimp only; omega)), (by first | exact Nat.le_of_ble_eq_true rfl | omega | (dsimp only; omega))⟩, rfl, X.hts _ q122⟩) rfl ⟨hl.1, Nat.le_of_ble_eq_true rfl, (by first | exact Nat.le_of_ble_eq_true rfl | omega | (dsimp only; omega)), (by first | exact Nat.le_of_ble_eq_true rfl | omega | (dsimp only; omega))⟩ rfl dX0_newDepth_20⟩) (fun ad12 μ11 H locs hf hag1 h => ?_)
      replace hl : lv_has ls 2 [(0, .ref (ad12 i3)), (1, .int x4)] := by rw [hag1 i3 hlt0]; exact hl
      replace hag : ∀ i, i < nz → ad12 i = ad i := fun i hi => (hag1 i (Nat.lt_of_lt_of_le hi hle)).trans (hag i hi)
      refine W.eq (g2 := F0 m 23 ls [.ref (ad12 i10), .int x4, .ref (ad12 i3)]) (by rw [hag1 i3 hlt0, hag1 i10 hlt1]) ?_
      clear hag1 hle hlt0 hlt1
      obtain ⟨⟨fs0, hv⟩, hf⟩ := gis_some hf
      refine r_astO X h (t := 7) (E := "SandPiano$Sands") (T := TX1) rfl hv rfl (Or.inl rfl) dX0_newDepth_23 hf (fun μ13 H locs hf h => ?_)
      refine r_nmk hf (fun x14 ex hf => ?_)
      refine lv_iinc (v := x14) (lv' := [(1, .int x14), (0, .ref (ad12 i3))]) X.hx X.hb dX0_newDepth_24 hl (k := 1) rfl (by rw [ex]; rfl) (by decide) rfl (fun ls hl => ?_)
      clear ex
      refine lv_goto (tgt := 8) X.hx X.hb dX0_newDepth_27 (by decide) ?_
      exact ih _ _ _ _ _ _ _ _ (by omega) (by omega) hag hf h (lv_sub hl [1, 0] rfl)
def fX0_newDepth (μ0 : gM) : gR := gnq μ0 7 7 7 fun μ2 i3 => fX0_newDepth_L8 i3 8 0 μ2
set_option maxHeartbeats 4000000 in
theorem wX0_newDepth (l : Launch) (Γ : gG) (ad : Nat → Nat) (μ0 : gM) (r : Option Value × gM) (hf : fX0_newDepth μ0 = some r) : gMt1 l Γ yX0_newDepth (ws_ yX0_newDepth cX0_newDepth 2 (some (.array (.object "SandPiano$Sands")))) ({ frames := 2, cells := 17, slots := 87, locals := 40 } : Room) 17 87 ad μ0 [] r := by
  intro sz
  refine g_start (maxL := 2) (ret := (some (.array (.object "SandPiano$Sands")))) (by decide) rfl g_all (Nat.le_of_ble_eq_true rfl) ?_
  intro p e s m below meth c ls hr hlk hnm X h hl
  generalize gA ad μ0 sz = A at X h ⊢
  generalize ([] : List Value).toArray = args at X ⊢
  have X : gX p m c cX0_newDepth 2 s args "SandPiano" Γ A := X
  have hl : lv_has ls 2 [] := hl
  show W p l e ({ frames := 2, cells := 17, slots := 87, locals := 40 } : Room) s m args below meth c s.heap [] 0 0 (MQ below (gQ1 Γ ad μ0.1 r A) args s 17 87 A) (F0 m 0 ls [])
  unfold fX0_newDepth at hf
  have hag : ∀ i, i < μ0.1 → ad i = ad i := fun _ _ => rfl
  refine lv_bipush (v := 7) X.hx X.hb dX0_newDepth_0 (by decide) ?_
  have hle := h.2.2.2
  refine r_newQ X h (t := 7) (E := "SandPiano$Sands") (lim := 7) rfl q119 X.2.1.2.2.1.2.2.1 (Nat.le_of_ble_eq_true rfl) (Nat.le_of_ble_eq_true rfl) (Nat.le_of_ble_eq_true rfl) dX0_newDepth_2 hf (fun ad1 i3 μ2 H locs hf hag1 h => ?_)
  replace hag : ∀ i, i < μ0.1 → ad1 i = ad i := fun i hi => (hag1 i (Nat.lt_of_lt_of_le hi hle)).trans (hag i hi)
  clear hag1 hle
  refine lv_astore_n (lv' := [(0, .ref (ad1 i3))]) X.hx X.hb dX0_newDepth_5 rfl hl (by decide) rfl (fun ls hl => ?_)
  refine lv_iconst (v := 0) X.hx X.hb dX0_newDepth_6 (by decide) ?_
  refine lv_istore_n (lv' := [(1, .int 0), (0, .ref (ad1 i3))]) X.hx X.hb dX0_newDepth_7 rfl hl (by decide) rfl (fun ls hl => ?_)
  refine wX0_newDepth_L8 l i3 X hr hlk 8 1 7 _ _ _ _ _ _ (Nat.le_of_ble_eq_true rfl) (Nat.le_of_ble_eq_true rfl) hag hf h (lv_sub hl [1, 0] rfl)
/-! X0_init -/
def fX0_init (μ0 : gM) (b0 : Nat) : gR := glv μ0 b0 <| gna μ0 0 6 6 fun μ2 i3 => glv μ2 i3 <| gpf μ2 b0 0 1 (.ref i3) fun μ4 => gpf μ4 b0 0 4 (.long 1) fun μ5 => glv μ5 b0 <| gnq μ5 3 6 6 fun μ7 i8 => glv μ7 i8 <| gpf μ7 b0 0 5 (.ref i8) fun μ9 => glv μ9 b0 <| gnq μ9 4 4 4 fun μ11 i12 => glv μ11 i12 <| gpf μ11 b0 0 6 (.ref i12) fun μ13 => glv μ13 b0 <| gnq μ13 5 6 6 fun μ15 i16 => glv μ15 i16 <| gpf μ15 b0 0 9 (.ref i16) fun μ17 => glv μ17 b0 <| gno μ17 1 [.null] fun μ19 i20 => glv μ19 b0 <| glv μ19 i20 <| cV (fX1_init μ19 i20) fun μ21 => glv μ21 i20 <| gpf μ21 b0 0 10 (.ref i20) fun μ23 => glv μ23 b0 <| gna μ23 0 6 6 fun μ25 i26 => glv μ25 i26 <| gpf μ25 b0 0 15 (.ref i26) fun μ27 => glv μ27 b0 <| gna μ27 0 6 6 fun μ29 i30 => glv μ29 i30 <| gpf μ29 b0 0 16 (.ref i30) fun μ31 => glv μ31 b0 <| gna μ31 0 6 6 fun μ33 i34 => glv μ33 i34 <| gpf μ33 b0 0 17 (.ref i34) fun μ35 => glv μ35 b0 <| gna μ35 0 6 6 fun μ37 i38 => glv μ37 i38 <| gpf μ37 b0 0 18 (.ref i38) fun μ39 => glv μ39 b0 <| gna μ39 0 540 540 fun μ41 i42 => glv μ41 i42 <| gpf μ41 b0 0 20 (.ref i42) fun μ43 => glv μ43 b0 <| gnq μ43 6 3 3 fun μ45 i46 => glv μ45 i46 <| gpf μ45 b0 0 21 (.ref i46) fun μ47 => glv μ47 b0 <| gno μ47 1 [.null] fun μ49 i50 => glv μ49 b0 <| glv μ49 i50 <| cV (fX1_init μ49 i50) fun μ51 => glv μ51 i50 <| gpf μ51 b0 0 22 (.ref i50) fun μ53 => glv μ53 b0 <| gno μ53 1 [.null] fun μ55 i56 => glv μ55 b0 <| glv μ55 i56 <| cV (fX1_init μ55 i56) fun μ57 => glv μ57 i56 <| gpf μ57 b0 0 23 (.ref i56) fun μ59 => glv μ59 b0 <| gna μ59 0 4 4 fun μ61 i62 => glv μ61 i62 <| gpf μ61 b0 0 24 (.ref i62) fun μ63 => glv μ63 b0 <| cP (fX0_newDepth μ63) fun i64 μ65 => glv μ65 i64 <| gpf μ65 b0 0 25 (.ref i64) fun μ67 => glv μ67 b0 <| gna μ67 0 6 6 fun μ69 i70 => glv μ69 i70 <| gpf μ69 b0 0 26 (.ref i70) fun μ71 => glv μ71 b0 <| gna μ71 0 6 6 fun μ73 i74 => glv μ73 i74 <| gpf μ73 b0 0 27 (.ref i74) fun μ75 => glv μ75 b0 <| gna μ75 0 7776 7776 fun μ77 i78 => glv μ77 i78 <| gpf μ77 b0 0 30 (.ref i78) fun μ79 => gpf μ79 b0 0 8 (.int 1) fun μ80 => some (none, μ80)
set_option maxHeartbeats 4000000 in
theorem wX0_init (l : Launch) (Γ : gG) (ad : Nat → Nat) (μ0 : gM) (b0 : Nat) (r : Option Value × gM) (hf : fX0_init μ0 b0 = some r) : gMt1 l Γ yX0_init (ws_ yX0_init cX0_init 1 none) ({ frames := 3, cells := 37, slots := 8498, locals := 61 } : Room) 37 8498 ad μ0 [.ref (ad b0)] r := by
  intro sz
  refine g_start (maxL := 1) (ret := none) (by decide) rfl g_all (Nat.le_of_ble_eq_true rfl) ?_
  intro p e s m below meth c ls hr hlk hnm X h hl
  generalize gA ad μ0 sz = A at X h ⊢
  generalize ([.ref (ad b0)] : List Value).toArray = args at X ⊢
  have X : gX p m c cX0_init 1 s args "SandPiano" Γ A := X
  have hl : lv_has ls 1 [(0, .ref (ad b0))] := hl
  show W p l e ({ frames := 3, cells := 37, slots := 8498, locals := 61 } : Room) s m args below meth c s.heap [] 0 0 (MQ below (gQ1 Γ ad μ0.1 r A) args s 37 8498 A) (F0 m 0 ls [])
  unfold fX0_init at hf
  have hag : ∀ i, i < μ0.1 → ad i = ad i := fun _ _ => rfl
  refine lv_aload_n X.hx X.hb dX0_init_0 rfl (lv_at hl 0 rfl) ?_
  refine W.objInit X.hx X.hb X.hown (X.hts _ q110) (X.hts _ q111) (X.hts _ q112) rfl (by rw [X.hml]; exact hl.1) rfl dX0_init_1 (Nat.le_of_ble_eq_true rfl) (Nat.le_of_ble_eq_true rfl) ?_
  refine W.eq (g2 := F0 m 4 ls []) rfl ?_
  refine lv_aload_n X.hx X.hb dX0_init_4 rfl (lv_at hl 0 rfl) ?_
  refine lv_bipush (v := 6) X.hx X.hb dX0_init_5 (by decide) ?_
  obtain ⟨⟨ek0, hek0⟩, hf⟩ := glv_some hf
  have hlt0 := (h.1 _ _ hek0).1
  clear hek0 ek0
  have hle := h.2.2.2
  refine r_newI X h (lim := 6) (Nat.le_of_ble_eq_true rfl) (Nat.le_of_ble_eq_true rfl) (Nat.le_of_ble_eq_true rfl) dX0_init_7 hf (fun ad1 i3 μ2 H locs hf hag1 h => ?_)
  replace hl : lv_has ls 1 [(0, .ref (ad1 b0))] := by rw [hag1 b0 hlt0]; exact hl
  replace hag : ∀ i, i < μ0.1 → ad1 i = ad i := fun i hi => (hag1 i (Nat.lt_of_lt_of_le hi hle)).trans (hag i hi)
  refine W.eq (g2 := F0 m 9 ls [.ref (ad1 i3), .ref (ad1 b0)]) (by rw [hag1 b0 hlt0]) ?_
  clear hag1 hle hlt0
  obtain ⟨hlv, hf⟩ := glv_some hf
  refine r_putF X h (ci := 0) (k := 1) (C := RX0) (T := TX0) (N := 36) (ty0 := tyX0) (ty := .array .int) (v := .ref i3) rfl in_X0 tyX0_ok nmX0 (by decide) q142 rfl rfl hnm rfl (by decide +kernel) rfl rfl (fun j hj => by cases hj; exact hlv) dX0_init_9 hf (fun μ4 H locs hf h => ?_)
  refine lv_aload_n X.hx X.hb dX0_init_12 rfl (lv_at hl 0 rfl) ?_
  refine lv_lconst (v := 1) X.hx X.hb dX0_init_13 (by decide) ?_
  refine r_put X h (ci := 0) (k := 4) (C := RX0) (T := TX0) (N := 36) (ty0 := tyX0) (ty := .long) (v := .long 1) rfl in_X0 tyX0_ok nmX0 (by decide) q145 rfl rfl (by decide +kernel) rfl rfl (fun j hj => by cases hj) dX0_init_14 hf (fun μ5 H locs hf h => ?_)
  refine lv_aload_n X.hx X.hb dX0_init_17 rfl (lv_at hl 0 rfl) ?_
  refine lv_bipush (v := 6) X.hx X.hb dX0_init_18 (by decide) ?_
  obtain ⟨⟨ek0, hek0⟩, hf⟩ := glv_some hf
  have hlt0 := (h.1 _ _ hek0).1
  clear hek0 ek0
  have hle := h.2.2.2
  refine r_newA X h (t := 3) (ty := .int) (lim := 6) rfl q113 X.2.1.2.2.1.2.2.2.1 (Nat.le_of_ble_eq_true rfl) (Nat.le_of_ble_eq_true rfl) (Nat.le_of_ble_eq_true rfl) dX0_init_20 hf (fun ad6 i8 μ7 H locs hf hag1 h => ?_)
  replace hl : lv_has ls 1 [(0, .ref (ad6 b0))] := by rw [hag1 b0 hlt0]; exact hl
  replace hag : ∀ i, i < μ0.1 → ad6 i = ad i := fun i hi => (hag1 i (Nat.lt_of_lt_of_le hi hle)).trans (hag i hi)
  refine W.eq (g2 := F0 m 23 ls [.ref (ad6 i8), .ref (ad6 b0)]) (by rw [hag1 b0 hlt0]) ?_
  clear hag1 hle hlt0
  obtain ⟨hlv, hf⟩ := glv_some hf
  refine r_putF X h (ci := 0) (k := 5) (C := RX0) (T := TX0) (N := 36) (ty0 := tyX0) (ty := .array (.array .int)) (v := .ref i8) rfl in_X0 tyX0_ok nmX0 (by decide) q146 rfl rfl hnm rfl (by decide +kernel) rfl rfl (fun j hj => by cases hj; exact hlv) dX0_init_23 hf (fun μ9 H locs hf h => ?_)
  refine lv_aload_n X.hx X.hb dX0_init_26 rfl (lv_at hl 0 rfl) ?_
  refine lv_iconst (v := 4) X.hx X.hb dX0_init_27 (by decide) ?_
  obtain ⟨⟨ek0, hek0⟩, hf⟩ := glv_some hf
  have hlt0 := (h.1 _ _ hek0).1
  clear hek0 ek0
  have hle := h.2.2.2
  refine r_newA X h (t := 4) (ty := .byte) (lim := 4) rfl q115 X.2.1.2.2.1.2.2.2.2 (Nat.le_of_ble_eq_true rfl) (Nat.le_of_ble_eq_true rfl) (Nat.le_of_ble_eq_true rfl) dX0_init_28 hf (fun ad10 i12 μ11 H locs hf hag1 h => ?_)
  replace hl : lv_has ls 1 [(0, .ref (ad10 b0))] := by rw [hag1 b0 hlt0]; exact hl
  replace hag : ∀ i, i < μ0.1 → ad10 i = ad i := fun i hi => (hag1 i (Nat.lt_of_lt_of_le hi hle)).trans (hag i hi)
  refine W.eq (g2 := F0 m 31 ls [.ref (ad10 i12), .ref (ad10 b0)]) (by rw [hag1 b0 hlt0]) ?_
  clear hag1 hle hlt0
  obtain ⟨hlv, hf⟩ := glv_some hf
  refine r_putF X h (ci := 0) (k := 6) (C := RX0) (T := TX0) (N := 36) (ty0 := tyX0) (ty := .array (.array .byte)) (v := .ref i12) rfl in_X0 tyX0_ok nmX0 (by decide) q147 rfl rfl hnm rfl (by decide +kernel) rfl rfl (fun j hj => by cases hj; exact hlv) dX0_init_31 hf (fun μ13 H locs hf h => ?_)
  refine lv_aload_n X.hx X.hb dX0_init_34 rfl (lv_at hl 0 rfl) ?_
  refine lv_bipush (v := 6) X.hx X.hb dX0_init_35 (by decide) ?_
  obtain ⟨⟨ek0, hek0⟩, hf⟩ := glv_some hf
  have hlt0 := (h.1 _ _ hek0).1
  clear hek0 ek0
  have hle := h.2.2.2
  refine r_newQ X h (t := 5) (E := "SandPiano$Key") (lim := 6) rfl q117 X.2.1.2.2.1.1 (Nat.le_of_ble_eq_true rfl) (Nat.le_of_ble_eq_true rfl) (Nat.le_of_ble_eq_true rfl) dX0_init_37 hf (fun ad14 i16 μ15 H locs hf hag1 h => ?_)
  replace hl : lv_has ls 1 [(0, .ref (ad14 b0))] := by rw [hag1 b0 hlt0]; exact hl
  replace hag : ∀ i, i < μ0.1 → ad14 i = ad i := fun i hi => (hag1 i (Nat.lt_of_lt_of_le hi hle)).trans (hag i hi)
  refine W.eq (g2 := F0 m 40 ls [.ref (ad14 i16), .ref (ad14 b0)]) (by rw [hag1 b0 hlt0]) ?_
  clear hag1 hle hlt0
  obtain ⟨hlv, hf⟩ := glv_some hf
  refine r_putF X h (ci := 0) (k := 9) (C := RX0) (T := TX0) (N := 36) (ty0 := tyX0) (ty := .array (.object "SandPiano$Key")) (v := .ref i16) rfl in_X0 tyX0_ok nmX0 (by decide) q151 rfl rfl hnm rfl (by decide +kernel) rfl rfl (fun j hj => by cases hj; exact hlv) dX0_init_40 hf (fun μ17 H locs hf h => ?_)
  refine lv_aload_n X.hx X.hb dX0_init_43 rfl (lv_at hl 0 rfl) ?_
  obtain ⟨⟨ek0, hek0⟩, hf⟩ := glv_some hf
  have hlt0 := (h.1 _ _ hek0).1
  clear hek0 ek0
  have hle := h.2.2.2
  refine r_newO X h (C := RX1) (T := TX1) (N := 1) (ty := tyX1) rfl in_X1 tyX1_ok q119 q120 q83 (fun j hj => by rcases (show j = 0 by omega) with rfl <;> rfl) (by intro v hv j; simp only [List.mem_cons, List.not_mem_nil, or_false] at hv; rcases hv with rfl <;> exact fun h9 => by cases h9) (Nat.le_of_ble_eq_true rfl) (Nat.le_of_ble_eq_true rfl) dX0_init_44 hf (fun ad18 i20 μ19 H locs hf hag1 h => ?_)
  replace hl : lv_has ls 1 [(0, .ref (ad18 b0))] := by rw [hag1 b0 hlt0]; exact hl
  replace hag : ∀ i, i < μ0.1 → ad18 i = ad i := fun i hi => (hag1 i (Nat.lt_of_lt_of_le hi hle)).trans (hag i hi)
  refine W.eq (g2 := F0 m 47 ls [.ref (ad18 i20), .ref (ad18 b0)]) (by rw [hag1 b0 hlt0]) ?_
  clear hag1 hle hlt0
  refine lv_dup X.hx X.hb dX0_init_47 rfl ?_
  obtain ⟨⟨ek0, hek0⟩, hf⟩ := glv_some hf
  have hlt0 := (h.1 _ _ hek0).1
  clear hek0 ek0
  obtain ⟨⟨ek1, hek1⟩, hf⟩ := glv_some hf
  have hlt1 := (h.1 _ _ hek1).1
  clear hek1 ek1
  have hle := h.2.2.2
  refine r_cX1 X h (rest := [.ref (ad18 i20), .ref (ad18 b0)]) (mc := 1) (ms := 9) hf (fun res hres => ⟨_, g_runIN (i := i20) (As := []) X h (wX1_init l Γ ad18 _ i20 res hres _) (⟨va_cnB 0 X.hts (lw_meth q123) rfl rfl rfl (X.2.1.2.1 0 _ rfl) (X.hts _ q83) (by decide +kernel) ⟨Nat.le_of_ble_eq_true rfl, Nat.le_of_ble_eq_true rfl⟩, rfl, X.hts _ q122⟩) rfl ⟨hl.1, Nat.le_of_ble_eq_true rfl, Nat.le_of_ble_eq_true rfl, Nat.le_of_ble_eq_true rfl⟩ rfl dX0_init_48⟩) (fun ad22 μ21 H locs hf hag1 h => ?_)
  replace hl : lv_has ls 1 [(0, .ref (ad22 b0))] := by rw [hag1 b0 hlt0]; exact hl
  replace hag : ∀ i, i < μ0.1 → ad22 i = ad i := fun i hi => (hag1 i (Nat.lt_of_lt_of_le hi hle)).trans (hag i hi)
  refine W.eq (g2 := F0 m 51 ls [.ref (ad22 i20), .ref (ad22 b0)]) (by rw [hag1 b0 hlt0, hag1 i20 hlt1]) ?_
  clear hag1 hle hlt0 hlt1
  obtain ⟨hlv, hf⟩ := glv_some hf
  refine r_putF X h (ci := 0) (k := 10) (C := RX0) (T := TX0) (N := 36) (ty0 := tyX0) (ty := .object "SandPiano$Sands") (v := .ref i20) rfl in_X0 tyX0_ok nmX0 (by decide) q152 rfl rfl hnm rfl (by decide +kernel) rfl rfl (fun j hj => by cases hj; exact hlv) dX0_init_51 hf (fun μ23 H locs hf h => ?_)
  refine lv_aload_n X.hx X.hb dX0_init_54 rfl (lv_at hl 0 rfl) ?_
  refine lv_bipush (v := 6) X.hx X.hb dX0_init_55 (by decide) ?_
  obtain ⟨⟨ek0, hek0⟩, hf⟩ := glv_some hf
  have hlt0 := (h.1 _ _ hek0).1
  clear hek0 ek0
  have hle := h.2.2.2
  refine r_newI X h (lim := 6) (Nat.le_of_ble_eq_true rfl) (Nat.le_of_ble_eq_true rfl) (Nat.le_of_ble_eq_true rfl) dX0_init_57 hf (fun ad24 i26 μ25 H locs hf hag1 h => ?_)
  replace hl : lv_has ls 1 [(0, .ref (ad24 b0))] := by rw [hag1 b0 hlt0]; exact hl
  replace hag : ∀ i, i < μ0.1 → ad24 i = ad i := fun i hi => (hag1 i (Nat.lt_of_lt_of_le hi hle)).trans (hag i hi)
  refine W.eq (g2 := F0 m 59 ls [.ref (ad24 i26), .ref (ad24 b0)]) (by rw [hag1 b0 hlt0]) ?_
  clear hag1 hle hlt0
  obtain ⟨hlv, hf⟩ := glv_some hf
  refine r_putF X h (ci := 0) (k := 15) (C := RX0) (T := TX0) (N := 36) (ty0 := tyX0) (ty := .array .int) (v := .ref i26) rfl in_X0 tyX0_ok nmX0 (by decide) q157 rfl rfl hnm rfl (by decide +kernel) rfl rfl (fun j hj => by cases hj; exact hlv) dX0_init_59 hf (fun μ27 H locs hf h => ?_)
  refine lv_aload_n X.hx X.hb dX0_init_62 rfl (lv_at hl 0 rfl) ?_
  refine lv_bipush (v := 6) X.hx X.hb dX0_init_63 (by decide) ?_
  obtain ⟨⟨ek0, hek0⟩, hf⟩ := glv_some hf
  have hlt0 := (h.1 _ _ hek0).1
  clear hek0 ek0
  have hle := h.2.2.2
  refine r_newI X h (lim := 6) (Nat.le_of_ble_eq_true rfl) (Nat.le_of_ble_eq_true rfl) (Nat.le_of_ble_eq_true rfl) dX0_init_65 hf (fun ad28 i30 μ29 H locs hf hag1 h => ?_)
  replace hl : lv_has ls 1 [(0, .ref (ad28 b0))] := by rw [hag1 b0 hlt0]; exact hl
  replace hag : ∀ i, i < μ0.1 → ad28 i = ad i := fun i hi => (hag1 i (Nat.lt_of_lt_of_le hi hle)).trans (hag i hi)
  refine W.eq (g2 := F0 m 67 ls [.ref (ad28 i30), .ref (ad28 b0)]) (by rw [hag1 b0 hlt0]) ?_
  clear hag1 hle hlt0
  obtain ⟨hlv, hf⟩ := glv_some hf
  refine r_putF X h (ci := 0) (k := 16) (C := RX0) (T := TX0) (N := 36) (ty0 := tyX0) (ty := .array .int) (v := .ref i30) rfl in_X0 tyX0_ok nmX0 (by decide) q158 rfl rfl hnm rfl (by decide +kernel) rfl rfl (fun j hj => by cases hj; exact hlv) dX0_init_67 hf (fun μ31 H locs hf h => ?_)
  refine lv_aload_n X.hx X.hb dX0_init_70 rfl (lv_at hl 0 rfl) ?_
  refine lv_bipush (v := 6) X.hx X.hb dX0_init_71 (by decide) ?_
  obtain ⟨⟨ek0, hek0⟩, hf⟩ := glv_some hf
  have hlt0 := (h.1 _ _ hek0).1
  clear hek0 ek0
  have hle := h.2.2.2
  refine r_newI X h (lim := 6) (Nat.le_of_ble_eq_true rfl) (Nat.le_of_ble_eq_true rfl) (Nat.le_of_ble_eq_true rfl) dX0_init_73 hf (fun ad32 i34 μ33 H locs hf hag1 h => ?_)
  replace hl : lv_has ls 1 [(0, .ref (ad32 b0))] := by rw [hag1 b0 hlt0]; exact hl
  replace hag : ∀ i, i < μ0.1 → ad32 i = ad i := fun i hi => (hag1 i (Nat.lt_of_lt_of_le hi hle)).trans (hag i hi)
  refine W.eq (g2 := F0 m 75 ls [.ref (ad32 i34), .ref (ad32 b0)]) (by rw [hag1 b0 hlt0]) ?_
  clear hag1 hle hlt0
  obtain ⟨hlv, hf⟩ := glv_some hf
  refine r_putF X h (ci := 0) (k := 17) (C := RX0) (T := TX0) (N := 36) (ty0 := tyX0) (ty := .array .int) (v := .ref i34) rfl in_X0 tyX0_ok nmX0 (by decide) q159 rfl rfl hnm rfl (by decide +kernel) rfl rfl (fun j hj => by cases hj; exact hlv) dX0_init_75 hf (fun μ35 H locs hf h => ?_)
  refine lv_aload_n X.hx X.hb dX0_init_78 rfl (lv_at hl 0 rfl) ?_
  refine lv_bipush (v := 6) X.hx X.hb dX0_init_79 (by decide) ?_
  obtain ⟨⟨ek0, hek0⟩, hf⟩ := glv_some hf
  have hlt0 := (h.1 _ _ hek0).1
  clear hek0 ek0
  have hle := h.2.2.2
  refine r_newI X h (lim := 6) (Nat.le_of_ble_eq_true rfl) (Nat.le_of_ble_eq_true rfl) (Nat.le_of_ble_eq_true rfl) dX0_init_81 hf (fun ad36 i38 μ37 H locs hf hag1 h => ?_)
  replace hl : lv_has ls 1 [(0, .ref (ad36 b0))] := by rw [hag1 b0 hlt0]; exact hl
  replace hag : ∀ i, i < μ0.1 → ad36 i = ad i := fun i hi => (hag1 i (Nat.lt_of_lt_of_le hi hle)).trans (hag i hi)
  refine W.eq (g2 := F0 m 83 ls [.ref (ad36 i38), .ref (ad36 b0)]) (by rw [hag1 b0 hlt0]) ?_
  clear hag1 hle hlt0
  obtain ⟨hlv, hf⟩ := glv_some hf
  refine r_putF X h (ci := 0) (k := 18) (C := RX0) (T := TX0) (N := 36) (ty0 := tyX0) (ty := .array .int) (v := .ref i38) rfl in_X0 tyX0_ok nmX0 (by decide) q160 rfl rfl hnm rfl (by decide +kernel) rfl rfl (fun j hj => by cases hj; exact hlv) dX0_init_83 hf (fun μ39 H locs hf h => ?_)
  refine lv_aload_n X.hx X.hb dX0_init_86 rfl (lv_at hl 0 rfl) ?_
  refine lv_sipush (v := 540) X.hx X.hb dX0_init_87 (by decide) ?_
  obtain ⟨⟨ek0, hek0⟩, hf⟩ := glv_some hf
  have hlt0 := (h.1 _ _ hek0).1
  clear hek0 ek0
  have hle := h.2.2.2
  refine r_newI X h (lim := 540) (Nat.le_of_ble_eq_true rfl) (Nat.le_of_ble_eq_true rfl) (Nat.le_of_ble_eq_true rfl) dX0_init_90 hf (fun ad40 i42 μ41 H locs hf hag1 h => ?_)
  replace hl : lv_has ls 1 [(0, .ref (ad40 b0))] := by rw [hag1 b0 hlt0]; exact hl
  replace hag : ∀ i, i < μ0.1 → ad40 i = ad i := fun i hi => (hag1 i (Nat.lt_of_lt_of_le hi hle)).trans (hag i hi)
  refine W.eq (g2 := F0 m 92 ls [.ref (ad40 i42), .ref (ad40 b0)]) (by rw [hag1 b0 hlt0]) ?_
  clear hag1 hle hlt0
  obtain ⟨hlv, hf⟩ := glv_some hf
  refine r_putF X h (ci := 0) (k := 20) (C := RX0) (T := TX0) (N := 36) (ty0 := tyX0) (ty := .array .int) (v := .ref i42) rfl in_X0 tyX0_ok nmX0 (by decide) q162 rfl rfl hnm rfl (by decide +kernel) rfl rfl (fun j hj => by cases hj; exact hlv) dX0_init_92 hf (fun μ43 H locs hf h => ?_)
  refine lv_aload_n X.hx X.hb dX0_init_95 rfl (lv_at hl 0 rfl) ?_
  refine lv_iconst (v := 3) X.hx X.hb dX0_init_96 (by decide) ?_
  obtain ⟨⟨ek0, hek0⟩, hf⟩ := glv_some hf
  have hlt0 := (h.1 _ _ hek0).1
  clear hek0 ek0
  have hle := h.2.2.2
  refine r_newQ X h (t := 6) (E := "SandPiano$Kept") (lim := 3) rfl q135 X.2.1.2.2.1.2.1 (Nat.le_of_ble_eq_true rfl) (Nat.le_of_ble_eq_true rfl) (Nat.le_of_ble_eq_true rfl) dX0_init_97 hf (fun ad44 i46 μ45 H locs hf hag1 h => ?_)
  replace hl : lv_has ls 1 [(0, .ref (ad44 b0))] := by rw [hag1 b0 hlt0]; exact hl
  replace hag : ∀ i, i < μ0.1 → ad44 i = ad i := fun i hi => (hag1 i (Nat.lt_of_lt_of_le hi hle)).trans (hag i hi)
  refine W.eq (g2 := F0 m 100 ls [.ref (ad44 i46), .ref (ad44 b0)]) (by rw [hag1 b0 hlt0]) ?_
  clear hag1 hle hlt0
  obtain ⟨hlv, hf⟩ := glv_some hf
  refine r_putF X h (ci := 0) (k := 21) (C := RX0) (T := TX0) (N := 36) (ty0 := tyX0) (ty := .array (.object "SandPiano$Kept")) (v := .ref i46) rfl in_X0 tyX0_ok nmX0 (by decide) q163 rfl rfl hnm rfl (by decide +kernel) rfl rfl (fun j hj => by cases hj; exact hlv) dX0_init_100 hf (fun μ47 H locs hf h => ?_)
  refine lv_aload_n X.hx X.hb dX0_init_103 rfl (lv_at hl 0 rfl) ?_
  obtain ⟨⟨ek0, hek0⟩, hf⟩ := glv_some hf
  have hlt0 := (h.1 _ _ hek0).1
  clear hek0 ek0
  have hle := h.2.2.2
  refine r_newO X h (C := RX1) (T := TX1) (N := 1) (ty := tyX1) rfl in_X1 tyX1_ok q119 q120 q83 (fun j hj => by rcases (show j = 0 by omega) with rfl <;> rfl) (by intro v hv j; simp only [List.mem_cons, List.not_mem_nil, or_false] at hv; rcases hv with rfl <;> exact fun h9 => by cases h9) (Nat.le_of_ble_eq_true rfl) (Nat.le_of_ble_eq_true rfl) dX0_init_104 hf (fun ad48 i50 μ49 H locs hf hag1 h => ?_)
  replace hl : lv_has ls 1 [(0, .ref (ad48 b0))] := by rw [hag1 b0 hlt0]; exact hl
  replace hag : ∀ i, i < μ0.1 → ad48 i = ad i := fun i hi => (hag1 i (Nat.lt_of_lt_of_le hi hle)).trans (hag i hi)
  refine W.eq (g2 := F0 m 107 ls [.ref (ad48 i50), .ref (ad48 b0)]) (by rw [hag1 b0 hlt0]) ?_
  clear hag1 hle hlt0
  refine lv_dup X.hx X.hb dX0_init_107 rfl ?_
  obtain ⟨⟨ek0, hek0⟩, hf⟩ := glv_some hf
  have hlt0 := (h.1 _ _ hek0).1
  clear hek0 ek0
  obtain ⟨⟨ek1, hek1⟩, hf⟩ := glv_some hf
  have hlt1 := (h.1 _ _ hek1).1
  clear hek1 ek1
  have hle := h.2.2.2
  refine r_cX1 X h (rest := [.ref (ad48 i50), .ref (ad48 b0)]) (mc := 1) (ms := 9) hf (fun res hres => ⟨_, g_runIN (i := i50) (As := []) X h (wX1_init l Γ ad48 _ i50 res hres _) (⟨va_cnB 0 X.hts (lw_meth q123) rfl rfl rfl (X.2.1.2.1 0 _ rfl) (X.hts _ q83) (by decide +kernel) ⟨Nat.le_of_ble_eq_true rfl, Nat.le_of_ble_eq_true rfl⟩, rfl, X.hts _ q122⟩) rfl ⟨hl.1, Nat.le_of_ble_eq_true rfl, Nat.le_of_ble_eq_true rfl, Nat.le_of_ble_eq_true rfl⟩ rfl dX0_init_108⟩) (fun ad52 μ51 H locs hf hag1 h => ?_)
  replace hl : lv_has ls 1 [(0, .ref (ad52 b0))] := by rw [hag1 b0 hlt0]; exact hl
  replace hag : ∀ i, i < μ0.1 → ad52 i = ad i := fun i hi => (hag1 i (Nat.lt_of_lt_of_le hi hle)).trans (hag i hi)
  refine W.eq (g2 := F0 m 111 ls [.ref (ad52 i50), .ref (ad52 b0)]) (by rw [hag1 b0 hlt0, hag1 i50 hlt1]) ?_
  clear hag1 hle hlt0 hlt1
  obtain ⟨hlv, hf⟩ := glv_some hf
  refine r_putF X h (ci := 0) (k := 22) (C := RX0) (T := TX0) (N := 36) (ty0 := tyX0) (ty := .object "SandPiano$Sands") (v := .ref i50) rfl in_X0 tyX0_ok nmX0 (by decide) q164 rfl rfl hnm rfl (by decide +kernel) rfl rfl (fun j hj => by cases hj; exact hlv) dX0_init_111 hf (fun μ53 H locs hf h => ?_)
  refine lv_aload_n X.hx X.hb dX0_init_114 rfl (lv_at hl 0 rfl) ?_
  obtain ⟨⟨ek0, hek0⟩, hf⟩ := glv_some hf
  have hlt0 := (h.1 _ _ hek0).1
  clear hek0 ek0
  have hle := h.2.2.2
  refine r_newO X h (C := RX1) (T := TX1) (N := 1) (ty := tyX1) rfl in_X1 tyX1_ok q119 q120 q83 (fun j hj => by rcases (show j = 0 by omega) with rfl <;> rfl) (by intro v hv j; simp only [List.mem_cons, List.not_mem_nil, or_false] at hv; rcases hv with rfl <;> exact fun h9 => by cases h9) (Nat.le_of_ble_eq_true rfl) (Nat.le_of_ble_eq_true rfl) dX0_init_115 hf (fun ad54 i56 μ55 H locs hf hag1 h => ?_)
  replace hl : lv_has ls 1 [(0, .ref (ad54 b0))] := by rw [hag1 b0 hlt0]; exact hl
  replace hag : ∀ i, i < μ0.1 → ad54 i = ad i := fun i hi => (hag1 i (Nat.lt_of_lt_of_le hi hle)).trans (hag i hi)
  refine W.eq (g2 := F0 m 118 ls [.ref (ad54 i56), .ref (ad54 b0)]) (by rw [hag1 b0 hlt0]) ?_
  clear hag1 hle hlt0
  refine lv_dup X.hx X.hb dX0_init_118 rfl ?_
  obtain ⟨⟨ek0, hek0⟩, hf⟩ := glv_some hf
  have hlt0 := (h.1 _ _ hek0).1
  clear hek0 ek0
  obtain ⟨⟨ek1, hek1⟩, hf⟩ := glv_some hf
  have hlt1 := (h.1 _ _ hek1).1
  clear hek1 ek1
  have hle := h.2.2.2
  refine r_cX1 X h (rest := [.ref (ad54 i56), .ref (ad54 b0)]) (mc := 1) (ms := 9) hf (fun res hres => ⟨_, g_runIN (i := i56) (As := []) X h (wX1_init l Γ ad54 _ i56 res hres _) (⟨va_cnB 0 X.hts (lw_meth q123) rfl rfl rfl (X.2.1.2.1 0 _ rfl) (X.hts _ q83) (by decide +kernel) ⟨Nat.le_of_ble_eq_true rfl, Nat.le_of_ble_eq_true rfl⟩, rfl, X.hts _ q122⟩) rfl ⟨hl.1, Nat.le_of_ble_eq_true rfl, Nat.le_of_ble_eq_true rfl, Nat.le_of_ble_eq_true rfl⟩ rfl dX0_init_119⟩) (fun ad58 μ57 H locs hf hag1 h => ?_)
  replace hl : lv_has ls 1 [(0, .ref (ad58 b0))] := by rw [hag1 b0 hlt0]; exact hl
  replace hag : ∀ i, i < μ0.1 → ad58 i = ad i := fun i hi => (hag1 i (Nat.lt_of_lt_of_le hi hle)).trans (hag i hi)
  refine W.eq (g2 := F0 m 122 ls [.ref (ad58 i56), .ref (ad58 b0)]) (by rw [hag1 b0 hlt0, hag1 i56 hlt1]) ?_
  clear hag1 hle hlt0 hlt1
  obtain ⟨hlv, hf⟩ := glv_some hf
  refine r_putF X h (ci := 0) (k := 23) (C := RX0) (T := TX0) (N := 36) (ty0 := tyX0) (ty := .object "SandPiano$Sands") (v := .ref i56) rfl in_X0 tyX0_ok nmX0 (by decide) q165 rfl rfl hnm rfl (by decide +kernel) rfl rfl (fun j hj => by cases hj; exact hlv) dX0_init_122 hf (fun μ59 H locs hf h => ?_)
  refine lv_aload_n X.hx X.hb dX0_init_125 rfl (lv_at hl 0 rfl) ?_
  refine lv_iconst (v := 4) X.hx X.hb dX0_init_126 (by decide) ?_
  obtain ⟨⟨ek0, hek0⟩, hf⟩ := glv_some hf
  have hlt0 := (h.1 _ _ hek0).1
  clear hek0 ek0
  have hle := h.2.2.2
  refine r_newI X h (lim := 4) (Nat.le_of_ble_eq_true rfl) (Nat.le_of_ble_eq_true rfl) (Nat.le_of_ble_eq_true rfl) dX0_init_127 hf (fun ad60 i62 μ61 H locs hf hag1 h => ?_)
  replace hl : lv_has ls 1 [(0, .ref (ad60 b0))] := by rw [hag1 b0 hlt0]; exact hl
  replace hag : ∀ i, i < μ0.1 → ad60 i = ad i := fun i hi => (hag1 i (Nat.lt_of_lt_of_le hi hle)).trans (hag i hi)
  refine W.eq (g2 := F0 m 129 ls [.ref (ad60 i62), .ref (ad60 b0)]) (by rw [hag1 b0 hlt0]) ?_
  clear hag1 hle hlt0
  obtain ⟨hlv, hf⟩ := glv_some hf
  refine r_putF X h (ci := 0) (k := 24) (C := RX0) (T := TX0) (N := 36) (ty0 := tyX0) (ty := .array .int) (v := .ref i62) rfl in_X0 tyX0_ok nmX0 (by decide) q166 rfl rfl hnm rfl (by decide +kernel) rfl rfl (fun j hj => by cases hj; exact hlv) dX0_init_129 hf (fun μ63 H locs hf h => ?_)
  refine lv_aload_n X.hx X.hb dX0_init_132 rfl (lv_at hl 0 rfl) ?_
  obtain ⟨⟨ek0, hek0⟩, hf⟩ := glv_some hf
  have hlt0 := (h.1 _ _ hek0).1
  clear hek0 ek0
  have hle := h.2.2.2
  refine r_cSP1 (As := []) (rest := [.ref (ad60 b0)]) X h hf (fun res hres => wX0_newDepth l Γ ad60 _ res hres) (va_cwS 0 X.hts (lw_S q137 q138 q82 q139) rfl rfl rfl (by decide +kernel) ⟨Nat.le_of_ble_eq_true rfl, Nat.le_of_ble_eq_true rfl⟩) rfl ⟨hl.1, Nat.le_of_ble_eq_true rfl, Nat.le_of_ble_eq_true rfl, Nat.le_of_ble_eq_true rfl⟩ rfl dX0_init_133 (fun i64 ad66 μ65 H locs hf hag1 h => ?_)
  replace hl : lv_has ls 1 [(0, .ref (ad66 b0))] := by rw [hag1 b0 hlt0]; exact hl
  replace hag : ∀ i, i < μ0.1 → ad66 i = ad i := fun i hi => (hag1 i (Nat.lt_of_lt_of_le hi hle)).trans (hag i hi)
  refine W.eq (g2 := F0 m 136 ls [.ref (ad66 i64), .ref (ad66 b0)]) (by rw [hag1 b0 hlt0]) ?_
  clear hag1 hle hlt0
  obtain ⟨hlv, hf⟩ := glv_some hf
  refine r_putF X h (ci := 0) (k := 25) (C := RX0) (T := TX0) (N := 36) (ty0 := tyX0) (ty := .array (.object "SandPiano$Sands")) (v := .ref i64) rfl in_X0 tyX0_ok nmX0 (by decide) q167 rfl rfl hnm rfl (by decide +kernel) rfl rfl (fun j hj => by cases hj; exact hlv) dX0_init_136 hf (fun μ67 H locs hf h => ?_)
  refine lv_aload_n X.hx X.hb dX0_init_139 rfl (lv_at hl 0 rfl) ?_
  refine lv_bipush (v := 6) X.hx X.hb dX0_init_140 (by decide) ?_
  obtain ⟨⟨ek0, hek0⟩, hf⟩ := glv_some hf
  have hlt0 := (h.1 _ _ hek0).1
  clear hek0 ek0
  have hle := h.2.2.2
  refine r_newI X h (lim := 6) (Nat.le_of_ble_eq_true rfl) (Nat.le_of_ble_eq_true rfl) (Nat.le_of_ble_eq_true rfl) dX0_init_142 hf (fun ad68 i70 μ69 H locs hf hag1 h => ?_)
  replace hl : lv_has ls 1 [(0, .ref (ad68 b0))] := by rw [hag1 b0 hlt0]; exact hl
  replace hag : ∀ i, i < μ0.1 → ad68 i = ad i := fun i hi => (hag1 i (Nat.lt_of_lt_of_le hi hle)).trans (hag i hi)
  refine W.eq (g2 := F0 m 144 ls [.ref (ad68 i70), .ref (ad68 b0)]) (by rw [hag1 b0 hlt0]) ?_
  clear hag1 hle hlt0
  obtain ⟨hlv, hf⟩ := glv_some hf
  refine r_putF X h (ci := 0) (k := 26) (C := RX0) (T := TX0) (N := 36) (ty0 := tyX0) (ty := .array .int) (v := .ref i70) rfl in_X0 tyX0_ok nmX0 (by decide) q168 rfl rfl hnm rfl (by decide +kernel) rfl rfl (fun j hj => by cases hj; exact hlv) dX0_init_144 hf (fun μ71 H locs hf h => ?_)
  refine lv_aload_n X.hx X.hb dX0_init_147 rfl (lv_at hl 0 rfl) ?_
  refine lv_bipush (v := 6) X.hx X.hb dX0_init_148 (by decide) ?_
  obtain ⟨⟨ek0, hek0⟩, hf⟩ := glv_some hf
  have hlt0 := (h.1 _ _ hek0).1
  clear hek0 ek0
  have hle := h.2.2.2
  refine r_newI X h (lim := 6) (Nat.le_of_ble_eq_true rfl) (Nat.le_of_ble_eq_true rfl) (Nat.le_of_ble_eq_true rfl) dX0_init_150 hf (fun ad72 i74 μ73 H locs hf hag1 h => ?_)
  replace hl : lv_has ls 1 [(0, .ref (ad72 b0))] := by rw [hag1 b0 hlt0]; exact hl
  replace hag : ∀ i, i < μ0.1 → ad72 i = ad i := fun i hi => (hag1 i (Nat.lt_of_lt_of_le hi hle)).trans (hag i hi)
  refine W.eq (g2 := F0 m 152 ls [.ref (ad72 i74), .ref (ad72 b0)]) (by rw [hag1 b0 hlt0]) ?_
  clear hag1 hle hlt0
  obtain ⟨hlv, hf⟩ := glv_some hf
  refine r_putF X h (ci := 0) (k := 27) (C := RX0) (T := TX0) (N := 36) (ty0 := tyX0) (ty := .array .int) (v := .ref i74) rfl in_X0 tyX0_ok nmX0 (by decide) q169 rfl rfl hnm rfl (by decide +kernel) rfl rfl (fun j hj => by cases hj; exact hlv) dX0_init_152 hf (fun μ75 H locs hf h => ?_)
  refine lv_aload_n X.hx X.hb dX0_init_155 rfl (lv_at hl 0 rfl) ?_
  refine lv_sipush (v := 7776) X.hx X.hb dX0_init_156 (by decide) ?_
  obtain ⟨⟨ek0, hek0⟩, hf⟩ := glv_some hf
  have hlt0 := (h.1 _ _ hek0).1
  clear hek0 ek0
  have hle := h.2.2.2
  refine r_newI X h (lim := 7776) (Nat.le_of_ble_eq_true rfl) (Nat.le_of_ble_eq_true rfl) (Nat.le_of_ble_eq_true rfl) dX0_init_159 hf (fun ad76 i78 μ77 H locs hf hag1 h => ?_)
  replace hl : lv_has ls 1 [(0, .ref (ad76 b0))] := by rw [hag1 b0 hlt0]; exact hl
  replace hag : ∀ i, i < μ0.1 → ad76 i = ad i := fun i hi => (hag1 i (Nat.lt_of_lt_of_le hi hle)).trans (hag i hi)
  refine W.eq (g2 := F0 m 161 ls [.ref (ad76 i78), .ref (ad76 b0)]) (by rw [hag1 b0 hlt0]) ?_
  clear hag1 hle hlt0
  obtain ⟨hlv, hf⟩ := glv_some hf
  refine r_putF X h (ci := 0) (k := 30) (C := RX0) (T := TX0) (N := 36) (ty0 := tyX0) (ty := .array .int) (v := .ref i78) rfl in_X0 tyX0_ok nmX0 (by decide) q172 rfl rfl hnm rfl (by decide +kernel) rfl rfl (fun j hj => by cases hj; exact hlv) dX0_init_161 hf (fun μ79 H locs hf h => ?_)
  refine lv_aload_n X.hx X.hb dX0_init_164 rfl (lv_at hl 0 rfl) ?_
  refine lv_iconst (v := 1) X.hx X.hb dX0_init_165 (by decide) ?_
  refine r_put X h (ci := 0) (k := 8) (C := RX0) (T := TX0) (N := 36) (ty0 := tyX0) (ty := .int) (v := .int 1) rfl in_X0 tyX0_ok nmX0 (by decide) q150 rfl rfl (by decide +kernel) rfl rfl (fun j hj => by cases hj) dX0_init_166 hf (fun μ80 H locs hf h => ?_)
  exact r_rv1 X h hag hr hlk (Nat.le_of_ble_eq_true rfl) (Nat.le_of_ble_eq_true rfl) dX0_init_169 hf
/-! X0_ask -/
def fX0_ask (μ0 : gM) (b0 : Nat) (a1 : Int32) (a2 : Int32) : gR := gpf μ0 b0 0 2 (.int a1) fun μ1 => some (some (.int a2), μ1)
set_option maxHeartbeats 4000000 in
theorem wX0_ask (l : Launch) (Γ : gG) (ad : Nat → Nat) (μ0 : gM) (b0 : Nat) (a1 : Int32) (a2 : Int32) (r : Option Value × gM) (hf : fX0_ask μ0 b0 a1 a2 = some r) : gMt0 l Γ yX0_ask (ws_ yX0_ask cX0_ask 3 (some .int)) ({ frames := 0, cells := 0, slots := 0, locals := 0 } : Room) 0 0 ad μ0 [.ref (ad b0), .int a1, .int a2] r := by
  intro sz
  refine g_start (maxL := 3) (ret := (some .int)) (by decide) rfl g_all (Nat.le_of_ble_eq_true rfl) ?_
  intro p e s m below meth c ls hr hlk hnm X h hl
  generalize gA ad μ0 sz = A at X h ⊢
  generalize ([.ref (ad b0), .int a1, .int a2] : List Value).toArray = args at X ⊢
  have X : gX p m c cX0_ask 3 s args "SandPiano" Γ A := X
  have hl : lv_has ls 3 [(0, .ref (ad b0)), (1, .int a1), (2, .int a2)] := hl
  show W p l e ({ frames := 0, cells := 0, slots := 0, locals := 0 } : Room) s m args below meth c s.heap [] 0 0 (MQ below (gQ0 Γ ad μ0.1 r A) args s 0 0 A) (F0 m 0 ls [])
  unfold fX0_ask at hf
  refine lv_aload_n X.hx X.hb dX0_ask_0 rfl (lv_at hl 0 rfl) ?_
  refine lv_iload_n X.hx X.hb dX0_ask_1 rfl (lv_at hl 1 rfl) ?_
  refine r_put X h (ci := 0) (k := 2) (C := RX0) (T := TX0) (N := 36) (ty0 := tyX0) (ty := .int) (v := .int a1) rfl in_X0 tyX0_ok nmX0 (by decide) q143 rfl rfl (by decide +kernel) rfl rfl (fun j hj => by cases hj) dX0_ask_2 hf (fun μ1 H locs hf h => ?_)
  refine lv_iload_n X.hx X.hb dX0_ask_5 rfl (lv_at hl 2 rfl) ?_
  exact r_ri X h hr hlk (Nat.le_of_ble_eq_true rfl) (Nat.le_of_ble_eq_true rfl) dX0_ask_6 hf
/-! X0_asked -/
def fX0_asked (μ0 : gM) (b0 : Nat) : gR := gI (gfld μ0 b0 0 2) fun x1 => some (some (.int x1), μ0)
set_option maxHeartbeats 4000000 in
theorem wX0_asked (l : Launch) (Γ : gG) (ad : Nat → Nat) (μ0 : gM) (b0 : Nat) (r : Option Value × gM) (hf : fX0_asked μ0 b0 = some r) : gMt0 l Γ yX0_asked (ws_ yX0_asked cX0_asked 1 (some .int)) ({ frames := 0, cells := 0, slots := 0, locals := 0 } : Room) 0 0 ad μ0 [.ref (ad b0)] r := by
  intro sz
  refine g_start (maxL := 1) (ret := (some .int)) (by decide) rfl g_all (Nat.le_of_ble_eq_true rfl) ?_
  intro p e s m below meth c ls hr hlk hnm X h hl
  generalize gA ad μ0 sz = A at X h ⊢
  generalize ([.ref (ad b0)] : List Value).toArray = args at X ⊢
  have X : gX p m c cX0_asked 1 s args "SandPiano" Γ A := X
  have hl : lv_has ls 1 [(0, .ref (ad b0))] := hl
  show W p l e ({ frames := 0, cells := 0, slots := 0, locals := 0 } : Room) s m args below meth c s.heap [] 0 0 (MQ below (gQ0 Γ ad μ0.1 r A) args s 0 0 A) (F0 m 0 ls [])
  unfold fX0_asked at hf
  refine lv_aload_n X.hx X.hb dX0_asked_0 rfl (lv_at hl 0 rfl) ?_
  refine r_getI X h (ci := 0) (k := 2) (C := RX0) (T := TX0) (N := 36) rfl in_X0 (by decide) q143 rfl dX0_asked_1 hf (fun x1 hf => ?_)
  exact r_ri X h hr hlk (Nat.le_of_ble_eq_true rfl) (Nat.le_of_ble_eq_true rfl) dX0_asked_4 hf
/-! X0_found -/
def fX0_found (μ0 : gM) (b0 : Nat) (a1 : Int32) : gR := gpf μ0 b0 0 0 (.int a1) fun μ1 => gP (gfld μ1 b0 0 1) fun i2 => gaI μ1 0 i2 a1 fun x3 => gsI μ1 0 i2 a1 (x3 + 1) fun μ4 => some (some (.int (-3)), μ4)
set_option maxHeartbeats 4000000 in
theorem wX0_found (l : Launch) (Γ : gG) (ad : Nat → Nat) (μ0 : gM) (b0 : Nat) (a1 : Int32) (r : Option Value × gM) (hf : fX0_found μ0 b0 a1 = some r) : gMt0 l Γ yX0_found (ws_ yX0_found cX0_found 2 (some .int)) ({ frames := 0, cells := 0, slots := 0, locals := 0 } : Room) 0 0 ad μ0 [.ref (ad b0), .int a1] r := by
  intro sz
  refine g_start (maxL := 2) (ret := (some .int)) (by decide) rfl g_all (Nat.le_of_ble_eq_true rfl) ?_
  intro p e s m below meth c ls hr hlk hnm X h hl
  generalize gA ad μ0 sz = A at X h ⊢
  generalize ([.ref (ad b0), .int a1] : List Value).toArray = args at X ⊢
  have X : gX p m c cX0_found 2 s args "SandPiano" Γ A := X
  have hl : lv_has ls 2 [(0, .ref (ad b0)), (1, .int a1)] := hl
  show W p l e ({ frames := 0, cells := 0, slots := 0, locals := 0 } : Room) s m args below meth c s.heap [] 0 0 (MQ below (gQ0 Γ ad μ0.1 r A) args s 0 0 A) (F0 m 0 ls [])
  unfold fX0_found at hf
  refine lv_aload_n X.hx X.hb dX0_found_0 rfl (lv_at hl 0 rfl) ?_
  refine lv_iload_n X.hx X.hb dX0_found_1 rfl (lv_at hl 1 rfl) ?_
  refine r_put X h (ci := 0) (k := 0) (C := RX0) (T := TX0) (N := 36) (ty0 := tyX0) (ty := .int) (v := .int a1) rfl in_X0 tyX0_ok nmX0 (by decide) q141 rfl rfl (by decide +kernel) rfl rfl (fun j hj => by cases hj) dX0_found_2 hf (fun μ1 H locs hf h => ?_)
  refine lv_aload_n X.hx X.hb dX0_found_5 rfl (lv_at hl 0 rfl) ?_
  refine r_getP X h (ci := 0) (k := 1) (C := RX0) (T := TX0) (N := 36) rfl in_X0 (by decide) q142 rfl dX0_found_6 hf (fun i2 hf => ?_)
  refine lv_iload_n X.hx X.hb dX0_found_9 rfl (lv_at hl 1 rfl) ?_
  refine lv_dup2_11 X.hx X.hb dX0_found_10 rfl rfl ?_
  refine r_iald X h dX0_found_11 hf (fun x3 hf => ?_)
  refine lv_iconst (v := 1) X.hx X.hb dX0_found_12 (by decide) ?_
  refine lv_iadd X.hx X.hb dX0_found_13 ?_
  refine r_iast X h dX0_found_14 hf (fun μ4 H locs hf h => ?_)
  refine lv_bipush (v := (-3)) X.hx X.hb dX0_found_15 (by decide) ?_
  exact r_ri X h hr hlk (Nat.le_of_ble_eq_true rfl) (Nat.le_of_ble_eq_true rfl) dX0_found_17 hf
/-! X0_isIn -/
def fX0_isIn (μ0 : gM) (a1 : Int32) (a2 : Int32) (a3 : Int32) : gR := if a1 < a2 then (rZ 0 μ0) else (if a3 < a1 then (rZ 0 μ0) else (rZ 1 μ0))
set_option maxHeartbeats 4000000 in
theorem wX0_isIn (l : Launch) (Γ : gG) (ad : Nat → Nat) (μ0 : gM) (a1 : Int32) (a2 : Int32) (a3 : Int32) (r : Option Value × gM) (hf : fX0_isIn μ0 a1 a2 a3 = some r) : gMt0 l Γ yX0_isIn (ws_ yX0_isIn cX0_isIn 3 (some .boolean)) ({ frames := 0, cells := 0, slots := 0, locals := 0 } : Room) 0 0 ad μ0 [.int a1, .int a2, .int a3] r := by
  intro sz
  refine g_start (maxL := 3) (ret := (some .boolean)) (by decide) rfl g_all (Nat.le_of_ble_eq_true rfl) ?_
  intro p e s m below meth c ls hr hlk hnm X h hl
  generalize gA ad μ0 sz = A at X h ⊢
  generalize ([.int a1, .int a2, .int a3] : List Value).toArray = args at X ⊢
  have X : gX p m c cX0_isIn 3 s args "SandPiano" Γ A := X
  have hl : lv_has ls 3 [(0, .int a1), (1, .int a2), (2, .int a3)] := hl
  show W p l e ({ frames := 0, cells := 0, slots := 0, locals := 0 } : Room) s m args below meth c s.heap [] 0 0 (MQ below (gQ0 Γ ad μ0.1 r A) args s 0 0 A) (F0 m 0 ls [])
  unfold fX0_isIn at hf
  refine lv_iload_n X.hx X.hb dX0_isIn_0 rfl (lv_at hl 0 rfl) ?_
  refine lv_iload_n X.hx X.hb dX0_isIn_1 rfl (lv_at hl 1 rfl) ?_
  refine lv_icmp_lt (tgt := 14) X.hx X.hb dX0_isIn_2 (by decide) (fun hc => ?_) (fun hc => ?_)
  · replace hf := gif_t hf hc
    clear hc
    refine lv_iconst (v := 0) X.hx X.hb dX0_isIn_14 (by decide) ?_
    exact r_rz X h hr hlk (Nat.le_of_ble_eq_true rfl) (Nat.le_of_ble_eq_true rfl) dX0_isIn_15 hf
  · replace hf := gif_f hf hc
    clear hc
    refine lv_iload_n X.hx X.hb dX0_isIn_5 rfl (lv_at hl 0 rfl) ?_
    refine lv_iload_n X.hx X.hb dX0_isIn_6 rfl (lv_at hl 2 rfl) ?_
    refine lv_icmp_gt (tgt := 14) X.hx X.hb dX0_isIn_7 (by decide) (fun hc => ?_) (fun hc => ?_)
    · replace hf := gif_t hf hc
      clear hc
      refine lv_iconst (v := 0) X.hx X.hb dX0_isIn_14 (by decide) ?_
      exact r_rz X h hr hlk (Nat.le_of_ble_eq_true rfl) (Nat.le_of_ble_eq_true rfl) dX0_isIn_15 hf
    · replace hf := gif_f hf hc
      clear hc
      refine lv_iconst (v := 1) X.hx X.hb dX0_isIn_10 (by decide) ?_
      refine lv_goto (tgt := 15) X.hx X.hb dX0_isIn_11 (by decide) ?_
      exact r_rz X h hr hlk (Nat.le_of_ble_eq_true rfl) (Nat.le_of_ble_eq_true rfl) dX0_isIn_15 hf
/-! X0_isKey -/
def fX0_isKey (μ0 : gM) (b0 : Nat) (a1 : Int32) : gR := gI (gfld μ0 b0 0 7) fun x1 => cI (fX0_isIn μ0 a1 0 (x1 - 1)) fun x2 μ3 => rZ x2 μ3
set_option maxHeartbeats 4000000 in
theorem wX0_isKey (l : Launch) (Γ : gG) (ad : Nat → Nat) (μ0 : gM) (b0 : Nat) (a1 : Int32) (r : Option Value × gM) (hf : fX0_isKey μ0 b0 a1 = some r) : gMt0 l Γ yX0_isKey (ws_ yX0_isKey cX0_isKey 2 (some .boolean)) ({ frames := 1, cells := 0, slots := 0, locals := 22 } : Room) 0 0 ad μ0 [.ref (ad b0), .int a1] r := by
  intro sz
  refine g_start (maxL := 2) (ret := (some .boolean)) (by decide) rfl g_all (Nat.le_of_ble_eq_true rfl) ?_
  intro p e s m below meth c ls hr hlk hnm X h hl
  generalize gA ad μ0 sz = A at X h ⊢
  generalize ([.ref (ad b0), .int a1] : List Value).toArray = args at X ⊢
  have X : gX p m c cX0_isKey 2 s args "SandPiano" Γ A := X
  have hl : lv_has ls 2 [(0, .ref (ad b0)), (1, .int a1)] := hl
  show W p l e ({ frames := 1, cells := 0, slots := 0, locals := 22 } : Room) s m args below meth c s.heap [] 0 0 (MQ below (gQ0 Γ ad μ0.1 r A) args s 0 0 A) (F0 m 0 ls [])
  unfold fX0_isKey at hf
  refine lv_iload_n X.hx X.hb dX0_isKey_0 rfl (lv_at hl 1 rfl) ?_
  refine lv_iconst (v := 0) X.hx X.hb dX0_isKey_1 (by decide) ?_
  refine lv_aload_n X.hx X.hb dX0_isKey_2 rfl (lv_at hl 0 rfl) ?_
  refine r_getI X h (ci := 0) (k := 7) (C := RX0) (T := TX0) (N := 36) rfl in_X0 (by decide) q149 rfl dX0_isKey_3 hf (fun x1 hf => ?_)
  refine lv_iconst (v := 1) X.hx X.hb dX0_isKey_6 (by decide) ?_
  refine lv_isub X.hx X.hb dX0_isKey_7 ?_
  refine r_cSI (As := [.int a1, .int 0, .int (x1 - 1)]) (rest := []) X h hf (fun res hres => wX0_isIn l Γ ad _ a1 0 (x1 - 1) res hres) (va_cwS 3 X.hts (lw_S q344 q345 q82 q346) rfl rfl rfl (by decide +kernel) ⟨Nat.le_of_ble_eq_true rfl, Nat.le_of_ble_eq_true rfl⟩) rfl ⟨hl.1, Nat.le_of_ble_eq_true rfl, Nat.le_of_ble_eq_true rfl, Nat.le_of_ble_eq_true rfl⟩ rfl dX0_isKey_8 (fun x2 μ3 H locs hf h => ?_)
  exact r_rz X h hr hlk (Nat.le_of_ble_eq_true rfl) (Nat.le_of_ble_eq_true rfl) dX0_isKey_11 hf
/-! X0_askedPiece -/
def fX0_askedPiece_L46 (b0 : Nat) (i9 : Nat) (x10 : Int32) (kx67 : gM → gR) : Nat → Int32 → gM → gR
  | 0, _, _ => none
  | n13 + 1, x11, μ12 => if x10 ≤ x11 then (some (some (.int 0), μ12)) else (gaI μ12 0 i9 x11 fun x14 => gis μ12 b0 0 <| cI (fX0_isKey μ12 b0 x14) fun x15 μ16 => if x15 = 0 then (kx67 μ16) else (gnm (x11 + 1) fun x17 => fX0_askedPiece_L46 b0 i9 x10 kx67 n13 x17 μ16))
set_option maxHeartbeats 4000000 in
theorem wX0_askedPiece_L46 {p : Program} {e : Env} {s : State} {m : MethodId} {args : Array Value} {below : List Frame} {meth : Method} {c : Code} {Γ : gG} {A : Nat → Prop} {nz : Nat} {ad : Nat → Nat} {r : Option Value × gM} (l : Launch) (b0 : Nat) (i9 : Nat) (x10 : Int32) (kx67 : gM → gR) (X : gX p m c cX0_askedPiece 6 s args "SandPiano" Γ A) (hr : meth.sig.returnType = (some .int)) (hlk : meth.locks = false) (hk67 : ∀  (μ : gM) (H : Heap) (locs : List Loc) (ls : Array Slot), kx67  μ = some r → gWd Γ A nz ad μ s.heap H locs → lv_has ls 6 [(0, .ref (ad b0))] → W p l e ({ frames := 2, cells := 0, slots := 0, locals := 43 } : Room) s m args below meth c H locs 0 0 (MQ below (gQ0 Γ ad nz r A) args s 0 0 A) (F0 m 67 ls [])) : ∀ (n13 : Nat) (x11 : Int32) (μ12 : gM) (H : Heap) (locs : List Loc) (ls : Array Slot), fX0_askedPiece_L46 b0 i9 x10 kx67 n13 x11 μ12 = some r → gWd Γ A nz ad μ12 s.heap H locs → lv_has ls 6 [(0, .ref (ad b0)), (2, .ref (ad i9)), (3, .int x10), (4, .int x11)] → W p l e ({ frames := 2, cells := 0, slots := 0, locals := 43 } : Room) s m args below meth c H locs 0 0 (MQ below (gQ0 Γ ad nz r A) args s 0 0 A) (F0 m 46 ls []) := by
  intro n13
  induction n13 with
  | zero =>
    intro x11 μ12 H locs ls hf h hl
    have hf : (none : gR) = some r := hf
    cases hf
  | succ n13 ih =>
    intro x11 μ12 H locs ls hf h hl
    rw [fX0_askedPiece_L46] at hf
    refine lv_iload X.hx X.hb dX0_askedPiece_46 (lv_at hl 3 rfl) ?_
    refine lv_iload_n X.hx X.hb dX0_askedPiece_48 rfl (lv_at hl 2 rfl) ?_
    refine lv_icmp_ge (tgt := 79) X.hx X.hb dX0_askedPiece_49 (by decide) (fun hc => ?_) (fun hc => ?_)
    · replace hf := gif_t hf hc
      clear hc
      refine lv_iconst (v := 0) X.hx X.hb dX0_askedPiece_79 (by decide) ?_
      exact r_ri X h hr hlk (Nat.le_of_ble_eq_true rfl) (Nat.le_of_ble_eq_true rfl) dX0_askedPiece_80 hf
    · replace hf := gif_f hf hc
      clear hc
      refine lv_aload_n X.hx X.hb dX0_askedPiece_52 rfl (lv_at hl 1 rfl) ?_
      refine lv_iload X.hx X.hb dX0_askedPiece_53 (lv_at hl 3 rfl) ?_
      refine r_iald X h dX0_askedPiece_55 hf (fun x14 hf => ?_)
      refine lv_istore (lv' := [(5, .int x14), (0, .ref (ad b0)), (2, .ref (ad i9)), (3, .int x10), (4, .int x11)]) X.hx X.hb dX0_askedPiece_56 hl (by decide) rfl (fun ls hl => ?_)
      refine lv_aload_n X.hx X.hb dX0_askedPiece_58 rfl (lv_at hl 1 rfl) ?_
      refine lv_iload X.hx X.hb dX0_askedPiece_59 (lv_at hl 0 rfl) ?_
      refine r_cVI (As := [.int x14]) (rest := []) (C := RX0) (T := TX0) (N := 36) X h hf (fun res hres => wX0_isKey l Γ ad _ b0 x14 res hres) rfl (cwV 1 X.hts (lw_V q549 q551 qs9 q82 q552) rfl rfl rfl (by decide +kernel) ⟨Nat.le_of_ble_eq_true rfl, Nat.le_of_ble_eq_true rfl⟩) rfl ⟨hl.1, Nat.le_of_ble_eq_true rfl, Nat.le_of_ble_eq_true rfl, Nat.le_of_ble_eq_true rfl⟩ rfl dX0_askedPiece_61 (fun x15 μ16 H locs hf h => ?_)
      refine lv_if_ne (tgt := 73) X.hx X.hb dX0_askedPiece_64 (by decide) (fun hc => ?_) (fun hc => ?_)
      · replace hf := gif_f hf hc
        clear hc
        refine r_nmk hf (fun x17 ex hf => ?_)
        refine lv_iinc (v := x17) (lv' := [(4, .int x17), (5, .int x14), (0, .ref (ad b0)), (2, .ref (ad i9)), (3, .int x10)]) X.hx X.hb dX0_askedPiece_73 hl (k := 4) rfl (by rw [ex]; rfl) (by decide) rfl (fun ls hl => ?_)
        clear ex
        refine lv_goto (tgt := 46) X.hx X.hb dX0_askedPiece_76 (by decide) ?_
        exact ih _ _ _ _ _ hf h (lv_sub hl [2, 3, 4, 0] rfl)
      · replace hf := gif_t hf hc
        clear hc
        exact hk67 _ _ _ _ hf h (lv_sub hl [1] rfl)
def fX0_askedPiece (μ0 : gM) (b0 : Nat) (a1 : Int32) : gR := gP (gfld μ0 b0 0 5) fun i1 => gaQ μ0 3 i1 a1 fun o2 => gnu o2 (gis μ0 b0 0 <| cI (fX0_found μ0 b0 1) fun x23 μ24 => some (some (.int x23), μ24)) (gP (gfld μ0 b0 0 5) fun i3 => gaQ μ0 3 i3 a1 fun o4 => gnn o4 fun i5 => glen μ0 0 i5 fun x6 => if x6 ≤ 12 then (gP (gfld μ0 b0 0 5) fun i7 => gaQ μ0 3 i7 a1 fun o8 => gnn o8 fun i9 => glen μ0 0 i9 fun x10 => fX0_askedPiece_L46 b0 i9 x10 (fun (μ18 : gM) => gis μ18 b0 0 <| cI (fX0_found μ18 b0 3) fun x19 μ20 => some (some (.int x19), μ20)) 10000 0 μ0) else (gis μ0 b0 0 <| cI (fX0_found μ0 b0 5) fun x21 μ22 => some (some (.int x21), μ22)))
set_option maxHeartbeats 4000000 in
theorem wX0_askedPiece (l : Launch) (Γ : gG) (ad : Nat → Nat) (μ0 : gM) (b0 : Nat) (a1 : Int32) (r : Option Value × gM) (hf : fX0_askedPiece μ0 b0 a1 = some r) : gMt0 l Γ yX0_askedPiece (ws_ yX0_askedPiece cX0_askedPiece 6 (some .int)) ({ frames := 2, cells := 0, slots := 0, locals := 43 } : Room) 0 0 ad μ0 [.ref (ad b0), .int a1] r := by
  intro sz
  refine g_start (maxL := 6) (ret := (some .int)) (by decide) rfl g_all (Nat.le_of_ble_eq_true rfl) ?_
  intro p e s m below meth c ls hr hlk hnm X h hl
  generalize gA ad μ0 sz = A at X h ⊢
  generalize ([.ref (ad b0), .int a1] : List Value).toArray = args at X ⊢
  have X : gX p m c cX0_askedPiece 6 s args "SandPiano" Γ A := X
  have hl : lv_has ls 6 [(0, .ref (ad b0)), (1, .int a1)] := hl
  show W p l e ({ frames := 2, cells := 0, slots := 0, locals := 43 } : Room) s m args below meth c s.heap [] 0 0 (MQ below (gQ0 Γ ad μ0.1 r A) args s 0 0 A) (F0 m 0 ls [])
  unfold fX0_askedPiece at hf
  refine lv_aload_n X.hx X.hb dX0_askedPiece_0 rfl (lv_at hl 0 rfl) ?_
  refine r_getP X h (ci := 0) (k := 5) (C := RX0) (T := TX0) (N := 36) rfl in_X0 (by decide) q146 rfl dX0_askedPiece_1 hf (fun i1 hf => ?_)
  refine lv_iload_n X.hx X.hb dX0_askedPiece_4 rfl (lv_at hl 1 rfl) ?_
  refine r_aald X h (t := 3) rfl rfl dX0_askedPiece_5 hf (fun o2 hf => ?_)
  refine r_ifnn (tgt := 15) X.hx X.hb dX0_askedPiece_6 (by decide) hf (fun hf => ?_) (fun hf => ?_)
  · refine lv_aload_n X.hx X.hb dX0_askedPiece_15 rfl (lv_at hl 0 rfl) ?_
    refine r_getP X h (ci := 0) (k := 5) (C := RX0) (T := TX0) (N := 36) rfl in_X0 (by decide) q146 rfl dX0_askedPiece_16 hf (fun i3 hf => ?_)
    refine lv_iload_n X.hx X.hb dX0_askedPiece_19 rfl (lv_at hl 1 rfl) ?_
    refine r_aald X h (t := 3) rfl rfl dX0_askedPiece_20 hf (fun o4 hf => ?_)
    refine r_nn hf (fun i5 hf => ?_)
    refine r_len X h (t := 0) rfl dX0_askedPiece_21 hf (fun x6 hf => ?_)
    refine lv_bipush (v := 12) X.hx X.hb dX0_askedPiece_22 (by decide) ?_
    refine lv_icmp_le (tgt := 33) X.hx X.hb dX0_askedPiece_24 (by decide) (fun hc => ?_) (fun hc => ?_)
    · replace hf := gif_t hf hc
      clear hc
      refine lv_aload_n X.hx X.hb dX0_askedPiece_33 rfl (lv_at hl 0 rfl) ?_
      refine r_getP X h (ci := 0) (k := 5) (C := RX0) (T := TX0) (N := 36) rfl in_X0 (by decide) q146 rfl dX0_askedPiece_34 hf (fun i7 hf => ?_)
      refine lv_iload_n X.hx X.hb dX0_askedPiece_37 rfl (lv_at hl 1 rfl) ?_
      refine r_aald X h (t := 3) rfl rfl dX0_askedPiece_38 hf (fun o8 hf => ?_)
      refine r_nn hf (fun i9 hf => ?_)
      refine lv_astore_n (lv' := [(2, .ref (ad i9)), (0, .ref (ad b0)), (1, .int a1)]) X.hx X.hb dX0_askedPiece_39 rfl hl (by decide) rfl (fun ls hl => ?_)
      refine lv_aload_n X.hx X.hb dX0_askedPiece_40 rfl (lv_at hl 0 rfl) ?_
      refine r_len X h (t := 0) rfl dX0_askedPiece_41 hf (fun x10 hf => ?_)
      refine lv_istore_n (lv' := [(3, .int x10), (2, .ref (ad i9)), (0, .ref (ad b0)), (1, .int a1)]) X.hx X.hb dX0_askedPiece_42 rfl hl (by decide) rfl (fun ls hl => ?_)
      refine lv_iconst (v := 0) X.hx X.hb dX0_askedPiece_43 (by decide) ?_
      refine lv_istore (lv' := [(4, .int 0), (3, .int x10), (2, .ref (ad i9)), (0, .ref (ad b0)), (1, .int a1)]) X.hx X.hb dX0_askedPiece_44 hl (by decide) rfl (fun ls hl => ?_)
      refine wX0_askedPiece_L46 l b0 i9 x10 _ X hr hlk (fun μ18 H locs ls hf h hl => ?_) 10000 _ _ _ _ _ hf h (lv_sub hl [3, 2, 1, 0] rfl)
      refine lv_aload_n X.hx X.hb dX0_askedPiece_67 rfl (lv_at hl 0 rfl) ?_
      refine lv_iconst (v := 3) X.hx X.hb dX0_askedPiece_68 (by decide) ?_
      refine r_cVI (As := [.int 3]) (rest := []) (C := RX0) (T := TX0) (N := 36) X h hf (fun res hres => wX0_found l Γ ad _ b0 3 res hres) rfl (cwV 1 X.hts (lw_V q347 q349 qs2 q82 q350) rfl rfl rfl (by decide +kernel) ⟨Nat.le_of_ble_eq_true rfl, Nat.le_of_ble_eq_true rfl⟩) rfl ⟨hl.1, Nat.le_of_ble_eq_true rfl, Nat.le_of_ble_eq_true rfl, Nat.le_of_ble_eq_true rfl⟩ rfl dX0_askedPiece_69 (fun x19 μ20 H locs hf h => ?_)
      exact r_ri X h hr hlk (Nat.le_of_ble_eq_true rfl) (Nat.le_of_ble_eq_true rfl) dX0_askedPiece_72 hf
    · replace hf := gif_f hf hc
      clear hc
      refine lv_aload_n X.hx X.hb dX0_askedPiece_27 rfl (lv_at hl 0 rfl) ?_
      refine lv_iconst (v := 5) X.hx X.hb dX0_askedPiece_28 (by decide) ?_
      refine r_cVI (As := [.int 5]) (rest := []) (C := RX0) (T := TX0) (N := 36) X h hf (fun res hres => wX0_found l Γ ad _ b0 5 res hres) rfl (cwV 1 X.hts (lw_V q347 q349 qs2 q82 q350) rfl rfl rfl (by decide +kernel) ⟨Nat.le_of_ble_eq_true rfl, Nat.le_of_ble_eq_true rfl⟩) rfl ⟨hl.1, Nat.le_of_ble_eq_true rfl, Nat.le_of_ble_eq_true rfl, Nat.le_of_ble_eq_true rfl⟩ rfl dX0_askedPiece_29 (fun x21 μ22 H locs hf h => ?_)
      exact r_ri X h hr hlk (Nat.le_of_ble_eq_true rfl) (Nat.le_of_ble_eq_true rfl) dX0_askedPiece_32 hf
  · refine lv_aload_n X.hx X.hb dX0_askedPiece_9 rfl (lv_at hl 0 rfl) ?_
    refine lv_iconst (v := 1) X.hx X.hb dX0_askedPiece_10 (by decide) ?_
    refine r_cVI (As := [.int 1]) (rest := []) (C := RX0) (T := TX0) (N := 36) X h hf (fun res hres => wX0_found l Γ ad _ b0 1 res hres) rfl (cwV 1 X.hts (lw_V q347 q349 qs2 q82 q350) rfl rfl rfl (by decide +kernel) ⟨Nat.le_of_ble_eq_true rfl, Nat.le_of_ble_eq_true rfl⟩) rfl ⟨hl.1, Nat.le_of_ble_eq_true rfl, Nat.le_of_ble_eq_true rfl, Nat.le_of_ble_eq_true rfl⟩ rfl dX0_askedPiece_11 (fun x23 μ24 H locs hf h => ?_)
    exact r_ri X h hr hlk (Nat.le_of_ble_eq_true rfl) (Nat.le_of_ble_eq_true rfl) dX0_askedPiece_14 hf
/-! X0_askedSong -/
def fX0_askedSong_L37 (b0 : Nat) (i5 : Nat) (kx66 : gM → gR) : Nat → Int32 → gM → gR
  | 0, _, _ => none
  | n9 + 1, x7, μ8 => glen μ8 0 i5 fun x10 => if x10 ≤ x7 then (some (some (.int 0), μ8)) else (gaI μ8 0 i5 x7 fun x11 => gis μ8 b0 0 <| cI (fX0_isKey μ8 b0 x11) fun x12 μ13 => if x12 = 0 then (kx66 μ13) else (gaI μ13 0 i5 (x7 + 1) fun x14 => cI (fX0_isIn μ13 x14 0 1) fun x15 μ16 => if x15 = 0 then (kx66 μ16) else (gnm (x7 + 2) fun x17 => fX0_askedSong_L37 b0 i5 kx66 n9 x17 μ16)))
set_option maxHeartbeats 4000000 in
theorem wX0_askedSong_L37 {p : Program} {e : Env} {s : State} {m : MethodId} {args : Array Value} {below : List Frame} {meth : Method} {c : Code} {Γ : gG} {A : Nat → Prop} {nz : Nat} {ad : Nat → Nat} {r : Option Value × gM} (l : Launch) (b0 : Nat) (i5 : Nat) (kx66 : gM → gR) (X : gX p m c cX0_askedSong 4 s args "SandPiano" Γ A) (hr : meth.sig.returnType = (some .int)) (hlk : meth.locks = false) (hk66 : ∀  (μ : gM) (H : Heap) (locs : List Loc) (ls : Array Slot), kx66  μ = some r → gWd Γ A nz ad μ s.heap H locs → lv_has ls 4 [(0, .ref (ad b0))] → W p l e ({ frames := 2, cells := 0, slots := 0, locals := 43 } : Room) s m args below meth c H locs 0 0 (MQ below (gQ0 Γ ad nz r A) args s 0 0 A) (F0 m 66 ls [])) : ∀ (n9 : Nat) (x7 : Int32) (μ8 : gM) (H : Heap) (locs : List Loc) (ls : Array Slot), fX0_askedSong_L37 b0 i5 kx66 n9 x7 μ8 = some r → gWd Γ A nz ad μ8 s.heap H locs → lv_has ls 4 [(0, .ref (ad b0)), (2, .ref (ad i5)), (3, .int x7)] → W p l e ({ frames := 2, cells := 0, slots := 0, locals := 43 } : Room) s m args below meth c H locs 0 0 (MQ below (gQ0 Γ ad nz r A) args s 0 0 A) (F0 m 37 ls []) := by
  intro n9
  induction n9 with
  | zero =>
    intro x7 μ8 H locs ls hf h hl
    have hf : (none : gR) = some r := hf
    cases hf
  | succ n9 ih =>
    intro x7 μ8 H locs ls hf h hl
    rw [fX0_askedSong_L37] at hf
    refine lv_iload_n X.hx X.hb dX0_askedSong_37 rfl (lv_at hl 2 rfl) ?_
    refine lv_aload_n X.hx X.hb dX0_askedSong_38 rfl (lv_at hl 1 rfl) ?_
    refine r_len X h (t := 0) rfl dX0_askedSong_39 hf (fun x10 hf => ?_)
    refine lv_icmp_ge (tgt := 78) X.hx X.hb dX0_askedSong_40 (by decide) (fun hc => ?_) (fun hc => ?_)
    · replace hf := gif_t hf hc
      clear hc
      refine lv_iconst (v := 0) X.hx X.hb dX0_askedSong_78 (by decide) ?_
      exact r_ri X h hr hlk (Nat.le_of_ble_eq_true rfl) (Nat.le_of_ble_eq_true rfl) dX0_askedSong_79 hf
    · replace hf := gif_f hf hc
      clear hc
      refine lv_aload_n X.hx X.hb dX0_askedSong_43 rfl (lv_at hl 0 rfl) ?_
      refine lv_aload_n X.hx X.hb dX0_askedSong_44 rfl (lv_at hl 1 rfl) ?_
      refine lv_iload_n X.hx X.hb dX0_askedSong_45 rfl (lv_at hl 2 rfl) ?_
      refine r_iald X h dX0_askedSong_46 hf (fun x11 hf => ?_)
      refine r_cVI (As := [.int x11]) (rest := []) (C := RX0) (T := TX0) (N := 36) X h hf (fun res hres => wX0_isKey l Γ ad _ b0 x11 res hres) rfl (cwV 1 X.hts (lw_V q549 q551 qs9 q82 q552) rfl rfl rfl (by decide +kernel) ⟨Nat.le_of_ble_eq_true rfl, Nat.le_of_ble_eq_true rfl⟩) rfl ⟨hl.1, Nat.le_of_ble_eq_true rfl, Nat.le_of_ble_eq_true rfl, Nat.le_of_ble_eq_true rfl⟩ rfl dX0_askedSong_47 (fun x12 μ13 H locs hf h => ?_)
      refine lv_if_eq (tgt := 66) X.hx X.hb dX0_askedSong_50 (by decide) (fun hc => ?_) (fun hc => ?_)
      · replace hf := gif_t hf hc
        clear hc
        exact hk66 _ _ _ _ hf h (lv_sub hl [0] rfl)
      · replace hf := gif_f hf hc
        clear hc
        refine lv_aload_n X.hx X.hb dX0_askedSong_53 rfl (lv_at hl 1 rfl) ?_
        refine lv_iload_n X.hx X.hb dX0_askedSong_54 rfl (lv_at hl 2 rfl) ?_
        refine lv_iconst (v := 1) X.hx X.hb dX0_askedSong_55 (by decide) ?_
        refine lv_iadd X.hx X.hb dX0_askedSong_56 ?_
        refine r_iald X h dX0_askedSong_57 hf (fun x14 hf => ?_)
        refine lv_iconst (v := 0) X.hx X.hb dX0_askedSong_58 (by decide) ?_
        refine lv_iconst (v := 1) X.hx X.hb dX0_askedSong_59 (by decide) ?_
        refine r_cSI (As := [.int x14, .int 0, .int 1]) (rest := []) X h hf (fun res hres => wX0_isIn l Γ ad _ x14 0 1 res hres) (va_cwS 3 X.hts (lw_S q344 q345 q82 q346) rfl rfl rfl (by decide +kernel) ⟨Nat.le_of_ble_eq_true rfl, Nat.le_of_ble_eq_true rfl⟩) rfl ⟨hl.1, Nat.le_of_ble_eq_true rfl, Nat.le_of_ble_eq_true rfl, Nat.le_of_ble_eq_true rfl⟩ rfl dX0_askedSong_60 (fun x15 μ16 H locs hf h => ?_)
        refine lv_if_ne (tgt := 72) X.hx X.hb dX0_askedSong_63 (by decide) (fun hc => ?_) (fun hc => ?_)
        · replace hf := gif_f hf hc
          clear hc
          refine r_nmk hf (fun x17 ex hf => ?_)
          refine lv_iinc (v := x17) (lv' := [(3, .int x17), (0, .ref (ad b0)), (2, .ref (ad i5))]) X.hx X.hb dX0_askedSong_72 hl (k := 2) rfl (by rw [ex]; rfl) (by decide) rfl (fun ls hl => ?_)
          clear ex
          refine lv_goto (tgt := 37) X.hx X.hb dX0_askedSong_75 (by decide) ?_
          exact ih _ _ _ _ _ hf h (lv_sub hl [1, 2, 0] rfl)
        · replace hf := gif_t hf hc
          clear hc
          exact hk66 _ _ _ _ hf h (lv_sub hl [0] rfl)
def fX0_askedSong (μ0 : gM) (b0 : Nat) (a1 : Int32) : gR := gP (gfld μ0 b0 0 5) fun i1 => gaQ μ0 3 i1 a1 fun o2 => gnu o2 (gis μ0 b0 0 <| cI (fX0_found μ0 b0 1) fun x23 μ24 => some (some (.int x23), μ24)) (gP (gfld μ0 b0 0 5) fun i3 => gaQ μ0 3 i3 a1 fun o4 => gnn o4 fun i5 => glen μ0 0 i5 fun x6 => if (x6 - x6 / 2 * 2) = 0 then (fX0_askedSong_L37 b0 i5 (fun (μ18 : gM) => gis μ18 b0 0 <| cI (fX0_found μ18 b0 3) fun x19 μ20 => some (some (.int x19), μ20)) 10000 0 μ0) else (gis μ0 b0 0 <| cI (fX0_found μ0 b0 5) fun x21 μ22 => some (some (.int x21), μ22)))
set_option maxHeartbeats 4000000 in
theorem wX0_askedSong (l : Launch) (Γ : gG) (ad : Nat → Nat) (μ0 : gM) (b0 : Nat) (a1 : Int32) (r : Option Value × gM) (hf : fX0_askedSong μ0 b0 a1 = some r) : gMt0 l Γ yX0_askedSong (ws_ yX0_askedSong cX0_askedSong 4 (some .int)) ({ frames := 2, cells := 0, slots := 0, locals := 43 } : Room) 0 0 ad μ0 [.ref (ad b0), .int a1] r := by
  intro sz
  refine g_start (maxL := 4) (ret := (some .int)) (by decide) rfl g_all (Nat.le_of_ble_eq_true rfl) ?_
  intro p e s m below meth c ls hr hlk hnm X h hl
  generalize gA ad μ0 sz = A at X h ⊢
  generalize ([.ref (ad b0), .int a1] : List Value).toArray = args at X ⊢
  have X : gX p m c cX0_askedSong 4 s args "SandPiano" Γ A := X
  have hl : lv_has ls 4 [(0, .ref (ad b0)), (1, .int a1)] := hl
  show W p l e ({ frames := 2, cells := 0, slots := 0, locals := 43 } : Room) s m args below meth c s.heap [] 0 0 (MQ below (gQ0 Γ ad μ0.1 r A) args s 0 0 A) (F0 m 0 ls [])
  unfold fX0_askedSong at hf
  refine lv_aload_n X.hx X.hb dX0_askedSong_0 rfl (lv_at hl 0 rfl) ?_
  refine r_getP X h (ci := 0) (k := 5) (C := RX0) (T := TX0) (N := 36) rfl in_X0 (by decide) q146 rfl dX0_askedSong_1 hf (fun i1 hf => ?_)
  refine lv_iload_n X.hx X.hb dX0_askedSong_4 rfl (lv_at hl 1 rfl) ?_
  refine r_aald X h (t := 3) rfl rfl dX0_askedSong_5 hf (fun o2 hf => ?_)
  refine r_ifnn (tgt := 15) X.hx X.hb dX0_askedSong_6 (by decide) hf (fun hf => ?_) (fun hf => ?_)
  · refine lv_aload_n X.hx X.hb dX0_askedSong_15 rfl (lv_at hl 0 rfl) ?_
    refine r_getP X h (ci := 0) (k := 5) (C := RX0) (T := TX0) (N := 36) rfl in_X0 (by decide) q146 rfl dX0_askedSong_16 hf (fun i3 hf => ?_)
    refine lv_iload_n X.hx X.hb dX0_askedSong_19 rfl (lv_at hl 1 rfl) ?_
    refine r_aald X h (t := 3) rfl rfl dX0_askedSong_20 hf (fun o4 hf => ?_)
    refine r_nn hf (fun i5 hf => ?_)
    refine lv_astore_n (lv' := [(2, .ref (ad i5)), (0, .ref (ad b0)), (1, .int a1)]) X.hx X.hb dX0_askedSong_21 rfl hl (by decide) rfl (fun ls hl => ?_)
    refine lv_aload_n X.hx X.hb dX0_askedSong_22 rfl (lv_at hl 0 rfl) ?_
    refine r_len X h (t := 0) rfl dX0_askedSong_23 hf (fun x6 hf => ?_)
    refine lv_iconst (v := 2) X.hx X.hb dX0_askedSong_24 (by decide) ?_
    refine lv_irem X.hx X.hb dX0_askedSong_25 (by decide) ?_
    refine lv_if_eq (tgt := 35) X.hx X.hb dX0_askedSong_26 (by decide) (fun hc => ?_) (fun hc => ?_)
    · replace hf := gif_t hf hc
      clear hc
      refine lv_iconst (v := 0) X.hx X.hb dX0_askedSong_35 (by decide) ?_
      refine lv_istore_n (lv' := [(3, .int 0), (2, .ref (ad i5)), (0, .ref (ad b0)), (1, .int a1)]) X.hx X.hb dX0_askedSong_36 rfl hl (by decide) rfl (fun ls hl => ?_)
      refine wX0_askedSong_L37 l b0 i5 _ X hr hlk (fun μ18 H locs ls hf h hl => ?_) 10000 _ _ _ _ _ hf h (lv_sub hl [2, 1, 0] rfl)
      refine lv_aload_n X.hx X.hb dX0_askedSong_66 rfl (lv_at hl 0 rfl) ?_
      refine lv_iconst (v := 3) X.hx X.hb dX0_askedSong_67 (by decide) ?_
      refine r_cVI (As := [.int 3]) (rest := []) (C := RX0) (T := TX0) (N := 36) X h hf (fun res hres => wX0_found l Γ ad _ b0 3 res hres) rfl (cwV 1 X.hts (lw_V q347 q349 qs2 q82 q350) rfl rfl rfl (by decide +kernel) ⟨Nat.le_of_ble_eq_true rfl, Nat.le_of_ble_eq_true rfl⟩) rfl ⟨hl.1, Nat.le_of_ble_eq_true rfl, Nat.le_of_ble_eq_true rfl, Nat.le_of_ble_eq_true rfl⟩ rfl dX0_askedSong_68 (fun x19 μ20 H locs hf h => ?_)
      exact r_ri X h hr hlk (Nat.le_of_ble_eq_true rfl) (Nat.le_of_ble_eq_true rfl) dX0_askedSong_71 hf
    · replace hf := gif_f hf hc
      clear hc
      refine lv_aload_n X.hx X.hb dX0_askedSong_29 rfl (lv_at hl 1 rfl) ?_
      refine lv_iconst (v := 5) X.hx X.hb dX0_askedSong_30 (by decide) ?_
      refine r_cVI (As := [.int 5]) (rest := []) (C := RX0) (T := TX0) (N := 36) X h hf (fun res hres => wX0_found l Γ ad _ b0 5 res hres) rfl (cwV 1 X.hts (lw_V q347 q349 qs2 q82 q350) rfl rfl rfl (by decide +kernel) ⟨Nat.le_of_ble_eq_true rfl, Nat.le_of_ble_eq_true rfl⟩) rfl ⟨hl.1, Nat.le_of_ble_eq_true rfl, Nat.le_of_ble_eq_true rfl, Nat.le_of_ble_eq_true rfl⟩ rfl dX0_askedSong_31 (fun x21 μ22 H locs hf h => ?_)
      exact r_ri X h hr hlk (Nat.le_of_ble_eq_true rfl) (Nat.le_of_ble_eq_true rfl) dX0_askedSong_34 hf
  · refine lv_aload_n X.hx X.hb dX0_askedSong_9 rfl (lv_at hl 0 rfl) ?_
    refine lv_iconst (v := 1) X.hx X.hb dX0_askedSong_10 (by decide) ?_
    refine r_cVI (As := [.int 1]) (rest := []) (C := RX0) (T := TX0) (N := 36) X h hf (fun res hres => wX0_found l Γ ad _ b0 1 res hres) rfl (cwV 1 X.hts (lw_V q347 q349 qs2 q82 q350) rfl rfl rfl (by decide +kernel) ⟨Nat.le_of_ble_eq_true rfl, Nat.le_of_ble_eq_true rfl⟩) rfl ⟨hl.1, Nat.le_of_ble_eq_true rfl, Nat.le_of_ble_eq_true rfl, Nat.le_of_ble_eq_true rfl⟩ rfl dX0_askedSong_11 (fun x23 μ24 H locs hf h => ?_)
    exact r_ri X h hr hlk (Nat.le_of_ble_eq_true rfl) (Nat.le_of_ble_eq_true rfl) dX0_askedSong_14 hf
