set_option maxRecDepth 100000
/-! X0_bestOn -/
def fX0_bestOn_L59 (rec : gM → Nat → Int32 → Int32 → gR) (b0 : Nat) (a1 : Int32) (a2 : Int32) : Nat → Int32 → gM → gR
  | 0, _, _ => none
  | n3 + 1, x1, μ2 => gI (gfld μ2 b0 0 7) fun x4 => if x4 ≤ x1 then (some (none, μ2)) else (gP (gfld μ2 b0 0 9) fun i5 => gaQ μ2 5 i5 x1 fun o6 => gnn o6 fun i7 => gP (gfld μ2 b0 0 25) fun i8 => gaQ μ2 7 i8 a1 fun o9 => gnn o9 fun i10 => cI (vX3_plays μ2 i7 i10) fun x11 μ12 => gjn (fun  (μ13 : gM) => gnm (x1 + 1) fun x15 => fX0_bestOn_L59 rec b0 a1 a2 n3 x15 μ13) fun j14 => if x11 = 0 then (j14 μ12) else (gis μ12 b0 0 <| cV (fX0_goDeep μ12 b0 a1 x1) fun μ16 => gis μ16 b0 0 <| cV (rec μ16 b0 (a1 + 1) a2) fun μ17 => j14 μ17))
set_option maxHeartbeats 4000000 in
theorem wX0_bestOn_L59 {p : Program} {e : Env} {s : State} {m : MethodId} {args : Array Value} {below : List Frame} {meth : Method} {c : Code} {Γ : gG} {A : Nat → Prop} {nz : Nat} {ad : Nat → Nat} {r : Option Value × gM} (l : Launch) (dd : Nat) (rec : gM → Nat → Int32 → Int32 → gR) (b0 : Nat) (a1 : Int32) (a2 : Int32) (X : gX p m c cX0_bestOn 4 s args "SandPiano" Γ A) (hr : meth.sig.returnType = none) (hlk : meth.locks = false) (hrec : ∀ (ad : Nat → Nat) (μ : gM) (b0 : Nat) (a1 : Int32) (a2 : Int32) (r : Option Value × gM), rec μ b0 a1 a2 = some r → gMt0 l Γ yX0_bestOn (ws_ yX0_bestOn cX0_bestOn 4 none) ({ frames := 5 + dd, cells := 0, slots := 0, locals := 111 + dd * 23 } : Room) 0 0 ad μ [.ref (ad b0), .int a1, .int a2] r) : ∀ (n3 : Nat) (x1 : Int32) (μ2 : gM) (H : Heap) (locs : List Loc) (ls : Array Slot), fX0_bestOn_L59 rec b0 a1 a2 n3 x1 μ2 = some r → gWd Γ A nz ad μ2 s.heap H locs → lv_has ls 4 [(0, .ref (ad b0)), (1, .int a1), (2, .int a2), (3, .int x1)] → W p l e ({ frames := 5 + (dd + 1), cells := 0, slots := 0, locals := 111 + (dd + 1) * 23 } : Room) s m args below meth c H locs 0 0 (MQ below (gQ0 Γ ad nz r A) args s 0 0 A) (F0 m 59 ls []) := by
  intro n3
  induction n3 with
  | zero =>
    intro x1 μ2 H locs ls hf h hl
    have hf : (none : gR) = some r := hf
    cases hf
  | succ n3 ih =>
    intro x1 μ2 H locs ls hf h hl
    rw [fX0_bestOn_L59] at hf
    refine lv_iload_n X.hx X.hb dX0_bestOn_59 rfl (lv_at hl 3 rfl) ?_
    refine lv_aload_n X.hx X.hb dX0_bestOn_60 rfl (lv_at hl 0 rfl) ?_
    refine r_getI X h (ci := 0) (k := 7) (C := RX0) (T := TX0) (N := 36) rfl in_X0 (by decide) q149 rfl dX0_bestOn_61 hf (fun x4 hf => ?_)
    refine lv_icmp_ge (tgt := 105) X.hx X.hb dX0_bestOn_64 (by decide) (fun hc => ?_) (fun hc => ?_)
    · replace hf := gif_t hf hc
      clear hc
      exact r_rv X h hr hlk ((by first | exact Nat.le_of_ble_eq_true rfl | omega | (dsimp only; omega))) ((by first | exact Nat.le_of_ble_eq_true rfl | omega | (dsimp only; omega))) dX0_bestOn_105 hf
    · replace hf := gif_f hf hc
      clear hc
      refine lv_aload_n X.hx X.hb dX0_bestOn_67 rfl (lv_at hl 0 rfl) ?_
      refine r_getP X h (ci := 0) (k := 9) (C := RX0) (T := TX0) (N := 36) rfl in_X0 (by decide) q151 rfl dX0_bestOn_68 hf (fun i5 hf => ?_)
      refine lv_iload_n X.hx X.hb dX0_bestOn_71 rfl (lv_at hl 3 rfl) ?_
      refine r_aald X h (t := 5) rfl rfl dX0_bestOn_72 hf (fun o6 hf => ?_)
      refine r_nn hf (fun i7 hf => ?_)
      refine lv_aload_n X.hx X.hb dX0_bestOn_73 rfl (lv_at hl 0 rfl) ?_
      refine r_getP X h (ci := 0) (k := 25) (C := RX0) (T := TX0) (N := 36) rfl in_X0 (by decide) q167 rfl dX0_bestOn_74 hf (fun i8 hf => ?_)
      refine lv_iload_n X.hx X.hb dX0_bestOn_77 rfl (lv_at hl 1 rfl) ?_
      refine r_aald X h (t := 7) rfl rfl dX0_bestOn_78 hf (fun o9 hf => ?_)
      refine r_nn hf (fun i10 hf => ?_)
      refine wvX3_plays X h q597 ((by first | exact Nat.le_of_ble_eq_true rfl | omega | (dsimp only; omega))) ((by first | exact Nat.le_of_ble_eq_true rfl | omega | (dsimp only; omega))) (rest := []) ⟨hl.1, Nat.le_of_ble_eq_true rfl, (by first | exact Nat.le_of_ble_eq_true rfl | omega | (dsimp only; omega)), (by first | exact Nat.le_of_ble_eq_true rfl | omega | (dsimp only; omega))⟩ rfl dX0_bestOn_79 hf (fun x11 μ12 H locs hf h => ?_)
      refine r_jn hf (fun j14 ej14 hf => ?_)
      have hj14 : ∀  (μ13 : gM) (H : Heap) (locs : List Loc) (ls : Array Slot), j14  μ13 = some r → gWd Γ A nz ad μ13 s.heap H locs → lv_has ls 4 [(0, .ref (ad b0)), (1, .int a1), (2, .int a2), (3, .int x1)] → W p l e ({ frames := 5 + (dd + 1), cells := 0, slots := 0, locals := 111 + (dd + 1) * 23 } : Room) s m args below meth c H locs 0 0 (MQ below (gQ0 Γ ad nz r A) args s 0 0 A) (F0 m 99 ls []) := by
        intro μ13 H locs ls hf h hl
        rw [ej14] at hf
        refine r_nmk hf (fun x15 ex hf => ?_)
        refine lv_iinc (v := x15) (lv' := [(3, .int x15), (0, .ref (ad b0)), (1, .int a1), (2, .int a2)]) X.hx X.hb dX0_bestOn_99 hl (k := 3) rfl (by rw [ex]; rfl) (by decide) rfl (fun ls hl => ?_)
        clear ex
        refine lv_goto (tgt := 59) X.hx X.hb dX0_bestOn_102 (by decide) ?_
        exact ih _ _ _ _ _ hf h (lv_sub hl [1, 2, 3, 0] rfl)
      clear ej14
      refine lv_if_eq (tgt := 99) X.hx X.hb dX0_bestOn_82 (by decide) (fun hc => ?_) (fun hc => ?_)
      · replace hf := gif_t hf hc
        clear hc
        exact hj14 _ _ _ _ hf h (lv_sub hl [0, 1, 2, 3] rfl)
      · replace hf := gif_f hf hc
        clear hc
        refine lv_aload_n X.hx X.hb dX0_bestOn_85 rfl (lv_at hl 0 rfl) ?_
        refine lv_iload_n X.hx X.hb dX0_bestOn_86 rfl (lv_at hl 1 rfl) ?_
        refine lv_iload_n X.hx X.hb dX0_bestOn_87 rfl (lv_at hl 3 rfl) ?_
        refine r_cVV (As := [.int a1, .int x1]) (rest := []) (C := RX0) (T := TX0) (N := 36) X h hf (fun res hres => wX0_goDeep l Γ ad _ b0 a1 x1 res hres) rfl (cwV 2 X.hts (lw_V q888 q890 qs22 q82 q891) rfl rfl rfl (by decide +kernel) ⟨(by first | exact Nat.le_of_ble_eq_true rfl | omega | (dsimp only; omega)), (by first | exact Nat.le_of_ble_eq_true rfl | omega | (dsimp only; omega))⟩) rfl ⟨hl.1, Nat.le_of_ble_eq_true rfl, (by first | exact Nat.le_of_ble_eq_true rfl | omega | (dsimp only; omega)), (by first | exact Nat.le_of_ble_eq_true rfl | omega | (dsimp only; omega))⟩ rfl dX0_bestOn_88 (fun μ16 H locs hf h => ?_)
        refine lv_aload_n X.hx X.hb dX0_bestOn_91 rfl (lv_at hl 0 rfl) ?_
        refine lv_iload_n X.hx X.hb dX0_bestOn_92 rfl (lv_at hl 1 rfl) ?_
        refine lv_iconst (v := 1) X.hx X.hb dX0_bestOn_93 (by decide) ?_
        refine lv_iadd X.hx X.hb dX0_bestOn_94 ?_
        refine lv_iload_n X.hx X.hb dX0_bestOn_95 rfl (lv_at hl 2 rfl) ?_
        refine r_cVV (As := [.int (a1 + 1), .int a2]) (rest := []) (C := RX0) (T := TX0) (N := 36) X h hf (fun res hres => hrec ad _ b0 (a1 + 1) a2 res hres) rfl (cwV 2 X.hts (lw_V q896 q898 qs23 q82 q899) rfl rfl rfl (by decide +kernel) ⟨(by first | exact Nat.le_of_ble_eq_true rfl | omega | (dsimp only; omega)), (by first | exact Nat.le_of_ble_eq_true rfl | omega | (dsimp only; omega))⟩) rfl ⟨hl.1, Nat.le_of_ble_eq_true rfl, (by first | exact Nat.le_of_ble_eq_true rfl | omega | (dsimp only; omega)), (by first | exact Nat.le_of_ble_eq_true rfl | omega | (dsimp only; omega))⟩ rfl dX0_bestOn_96 (fun μ17 H locs hf h => ?_)
        exact hj14 _ _ _ _ hf h (lv_sub hl [0, 1, 2, 3] rfl)
def fX0_bestOn_B (rec : gM → Nat → Int32 → Int32 → gR) (μ0 : gM) (b0 : Nat) (a1 : Int32) (a2 : Int32) : gR := if a1 = a2 then (gP (gfld μ0 b0 0 25) fun i18 => gaQ μ0 7 i18 a1 fun o19 => gnn o19 fun i20 => gP (gfld μ0 i20 1 0) fun i21 => gaI μ0 0 i21 8 fun x22 => gP (gfld μ0 b0 0 10) fun i23 => gP (gfld μ0 i23 1 0) fun i24 => gaI μ0 0 i24 8 fun x25 => gnm ((x22 - x25)) fun x26 => gI (gfld μ0 b0 0 29) fun x27 => if x26 ≤ x27 then (some (none, μ0)) else (gpf μ0 b0 0 29 (.int x26) fun μ28 => gP (gfld μ28 b0 0 26) fun i29 => gP (gfld μ28 b0 0 27) fun i30 => gcp μ28 i29 0 i30 0 a1 fun μ31 => some (none, μ31))) else (fX0_bestOn_L59 rec b0 a1 a2 10000 0 μ0)
set_option maxHeartbeats 4000000 in
theorem wX0_bestOn_B (l : Launch) (Γ : gG) (dd : Nat) (rec : gM → Nat → Int32 → Int32 → gR) (hrec : ∀ (ad : Nat → Nat) (μ : gM) (b0 : Nat) (a1 : Int32) (a2 : Int32) (r : Option Value × gM), rec μ b0 a1 a2 = some r → gMt0 l Γ yX0_bestOn (ws_ yX0_bestOn cX0_bestOn 4 none) ({ frames := 5 + dd, cells := 0, slots := 0, locals := 111 + dd * 23 } : Room) 0 0 ad μ [.ref (ad b0), .int a1, .int a2] r) (ad : Nat → Nat) (μ0 : gM) (b0 : Nat) (a1 : Int32) (a2 : Int32) (r : Option Value × gM) (hf : fX0_bestOn_B rec μ0 b0 a1 a2 = some r) : gMt0 l Γ yX0_bestOn (ws_ yX0_bestOn cX0_bestOn 4 none) ({ frames := 5 + (dd + 1), cells := 0, slots := 0, locals := 111 + (dd + 1) * 23 } : Room) 0 0 ad μ0 [.ref (ad b0), .int a1, .int a2] r := by
  intro sz
  refine g_start (maxL := 4) (ret := none) (by decide) rfl g_all (Nat.le_of_ble_eq_true rfl) ?_
  intro p e s m below meth c ls hr hlk hnm X h hl
  generalize gA ad μ0 sz = A at X h ⊢
  generalize ([.ref (ad b0), .int a1, .int a2] : List Value).toArray = args at X ⊢
  have X : gX p m c cX0_bestOn 4 s args "SandPiano" Γ A := X
  have hl : lv_has ls 4 [(0, .ref (ad b0)), (1, .int a1), (2, .int a2)] := hl
  show W p l e ({ frames := 5 + (dd + 1), cells := 0, slots := 0, locals := 111 + (dd + 1) * 23 } : Room) s m args below meth c s.heap [] 0 0 (MQ below (gQ0 Γ ad μ0.1 r A) args s 0 0 A) (F0 m 0 ls [])
  unfold fX0_bestOn_B at hf
  refine lv_iload_n X.hx X.hb dX0_bestOn_0 rfl (lv_at hl 1 rfl) ?_
  refine lv_iload_n X.hx X.hb dX0_bestOn_1 rfl (lv_at hl 2 rfl) ?_
  refine lv_icmp_ne (tgt := 57) X.hx X.hb dX0_bestOn_2 (by decide) (fun hc => ?_) (fun hc => ?_)
  · replace hf := gif_f hf hc
    clear hc
    refine lv_iconst (v := 0) X.hx X.hb dX0_bestOn_57 (by decide) ?_
    refine lv_istore_n (lv' := [(3, .int 0), (0, .ref (ad b0)), (1, .int a1), (2, .int a2)]) X.hx X.hb dX0_bestOn_58 rfl hl (by decide) rfl (fun ls hl => ?_)
    refine wX0_bestOn_L59 l _ rec b0 a1 a2 X hr hlk hrec 10000 _ _ _ _ _ hf h (lv_sub hl [1, 2, 3, 0] rfl)
  · replace hf := gif_t hf hc
    clear hc
    refine lv_aload_n X.hx X.hb dX0_bestOn_5 rfl (lv_at hl 0 rfl) ?_
    refine r_getP X h (ci := 0) (k := 25) (C := RX0) (T := TX0) (N := 36) rfl in_X0 (by decide) q167 rfl dX0_bestOn_6 hf (fun i18 hf => ?_)
    refine lv_iload_n X.hx X.hb dX0_bestOn_9 rfl (lv_at hl 1 rfl) ?_
    refine r_aald X h (t := 7) rfl rfl dX0_bestOn_10 hf (fun o19 hf => ?_)
    refine r_nn hf (fun i20 hf => ?_)
    refine r_getNP X h (ci := 1) (k := 0) (C := RX1) (T := TX1) (N := 1) rfl in_X1 (by decide) 8 rfl rfl dX0_bestOn_11 hf (fun i21 hf => ?_)
    refine lv_bipush (v := 8) X.hx X.hb dX0_bestOn_14 (by decide) ?_
    refine r_iald X h dX0_bestOn_16 hf (fun x22 hf => ?_)
    refine lv_aload_n X.hx X.hb dX0_bestOn_17 rfl (lv_at hl 0 rfl) ?_
    refine r_getP X h (ci := 0) (k := 10) (C := RX0) (T := TX0) (N := 36) rfl in_X0 (by decide) q152 rfl dX0_bestOn_18 hf (fun i23 hf => ?_)
    refine r_getNP X h (ci := 1) (k := 0) (C := RX1) (T := TX1) (N := 1) rfl in_X1 (by decide) 8 rfl rfl dX0_bestOn_21 hf (fun i24 hf => ?_)
    refine lv_bipush (v := 8) X.hx X.hb dX0_bestOn_24 (by decide) ?_
    refine r_iald X h dX0_bestOn_26 hf (fun x25 hf => ?_)
    refine lv_isub X.hx X.hb dX0_bestOn_27 ?_
    refine r_nmI hf (fun x26 hf => ?_)
    refine lv_istore_n (lv' := [(3, .int x26), (0, .ref (ad b0)), (1, .int a1), (2, .int a2)]) X.hx X.hb dX0_bestOn_28 rfl hl (by decide) rfl (fun ls hl => ?_)
    refine lv_iload_n X.hx X.hb dX0_bestOn_29 rfl (lv_at hl 0 rfl) ?_
    refine lv_aload_n X.hx X.hb dX0_bestOn_30 rfl (lv_at hl 1 rfl) ?_
    refine r_getI X h (ci := 0) (k := 29) (C := RX0) (T := TX0) (N := 36) rfl in_X0 (by decide) q171 rfl dX0_bestOn_31 hf (fun x27 hf => ?_)
    refine lv_icmp_le (tgt := 56) X.hx X.hb dX0_bestOn_34 (by decide) (fun hc => ?_) (fun hc => ?_)
    · replace hf := gif_t hf hc
      clear hc
      exact r_rv X h hr hlk ((by first | exact Nat.le_of_ble_eq_true rfl | omega | (dsimp only; omega))) ((by first | exact Nat.le_of_ble_eq_true rfl | omega | (dsimp only; omega))) dX0_bestOn_56 hf
    · replace hf := gif_f hf hc
      clear hc
      refine lv_aload_n X.hx X.hb dX0_bestOn_37 rfl (lv_at hl 1 rfl) ?_
      refine lv_iload_n X.hx X.hb dX0_bestOn_38 rfl (lv_at hl 0 rfl) ?_
      refine r_put X h (ci := 0) (k := 29) (C := RX0) (T := TX0) (N := 36) (ty0 := tyX0) (ty := .int) (v := .int x26) rfl in_X0 tyX0_ok nmX0 (by decide) q171 rfl rfl (by decide +kernel) rfl rfl (fun j hj => by cases hj) dX0_bestOn_39 hf (fun μ28 H locs hf h => ?_)
      refine lv_aload_n X.hx X.hb dX0_bestOn_42 rfl (lv_at hl 1 rfl) ?_
      refine r_getP X h (ci := 0) (k := 26) (C := RX0) (T := TX0) (N := 36) rfl in_X0 (by decide) q168 rfl dX0_bestOn_43 hf (fun i29 hf => ?_)
      refine lv_iconst (v := 0) X.hx X.hb dX0_bestOn_46 (by decide) ?_
      refine lv_aload_n X.hx X.hb dX0_bestOn_47 rfl (lv_at hl 1 rfl) ?_
      refine r_getP X h (ci := 0) (k := 27) (C := RX0) (T := TX0) (N := 36) rfl in_X0 (by decide) q169 rfl dX0_bestOn_48 hf (fun i30 hf => ?_)
      refine lv_iconst (v := 0) X.hx X.hb dX0_bestOn_51 (by decide) ?_
      refine lv_iload_n X.hx X.hb dX0_bestOn_52 rfl (lv_at hl 2 rfl) ?_
      refine r_copy X h hl.1 q417 ((by first | exact Nat.le_of_ble_eq_true rfl | omega | (dsimp only; omega))) (Nat.le_trans (m := 26) (Nat.le_of_ble_eq_true rfl) ((by first | exact Nat.le_of_ble_eq_true rfl | omega | (dsimp only; omega)))) dX0_bestOn_53 hf (fun μ31 H locs hf h => ?_)
      exact r_rv X h hr hlk ((by first | exact Nat.le_of_ble_eq_true rfl | omega | (dsimp only; omega))) ((by first | exact Nat.le_of_ble_eq_true rfl | omega | (dsimp only; omega))) dX0_bestOn_56 hf
def fX0_bestOn : Nat → gM → Nat → Int32 → Int32 → gR
  | 0, _, _, _, _ => none
  | d + 1, μ0, b0, a1, a2 => fX0_bestOn_B (fX0_bestOn d) μ0 b0 a1 a2
theorem wX0_bestOn (l : Launch) (Γ : gG) : ∀ (dd : Nat) (ad : Nat → Nat) (μ0 : gM) (b0 : Nat) (a1 : Int32) (a2 : Int32) (r : Option Value × gM), fX0_bestOn dd μ0 b0 a1 a2 = some r → gMt0 l Γ yX0_bestOn (ws_ yX0_bestOn cX0_bestOn 4 none) ({ frames := 5 + dd, cells := 0, slots := 0, locals := 111 + dd * 23 } : Room) 0 0 ad μ0 [.ref (ad b0), .int a1, .int a2] r := by
  intro dd
  induction dd with
  | zero =>
    intro ad μ0 b0 a1 a2 r hf
    have hf : (none : gR) = some r := hf
    cases hf
  | succ dd ih =>
    intro ad μ0 b0 a1 a2 r hf
    exact wX0_bestOn_B l Γ dd (fX0_bestOn dd) ih ad μ0 b0 a1 a2 r hf
/-! X0_best -/
def fX0_best (μ0 : gM) (b0 : Nat) (a1 : Int32) (a2 : Int32) : gR := cI (fX0_isIn μ0 a1 0 5) fun x1 μ2 => if x1 = 0 then (some (some (.int (-1)), μ2)) else (cI (fX0_isRow μ2 a2) fun x3 μ4 => if x3 = 0 then (some (some (.int (-1)), μ4)) else (gI (gfld μ4 b0 0 7) fun x5 => if x5 = 0 then (some (some (.int (-4)), μ4)) else (gpf μ4 b0 0 29 (.int (-1)) fun μ6 => gP (gfld μ6 b0 0 25) fun i7 => gaQ μ6 7 i7 0 fun o8 => gnn o8 fun i9 => gP (gfld μ6 b0 0 10) fun i10 => gis μ6 i9 1 <| cV (fX1_take μ6 i9 i10) fun μ11 => gis μ11 b0 0 <| cV (fX0_bestOn 8 μ11 b0 0 a1) fun μ12 => gI (gfld μ12 b0 0 29) fun x13 => if 0 ≤ x13 then (gP (gfld μ12 b0 0 27) fun i14 => glv μ12 b0 <| gis μ12 b0 0 <| cI (fX0_layRow μ12 b0 a2 i14 a1) fun x15 μ16 => gI (gfld μ16 b0 0 29) fun x18 => some (some (.int x18), μ16)) else (some (some (.int (-9)), μ12)))))
set_option maxHeartbeats 4000000 in
theorem wX0_best (l : Launch) (Γ : gG) (ad : Nat → Nat) (μ0 : gM) (b0 : Nat) (a1 : Int32) (a2 : Int32) (r : Option Value × gM) (hf : fX0_best μ0 b0 a1 a2 = some r) : gMt1 l Γ yX0_best (ws_ yX0_best cX0_best 3 (some .int)) ({ frames := 14, cells := 1, slots := 12, locals := 318 } : Room) 1 12 ad μ0 [.ref (ad b0), .int a1, .int a2] r := by
  intro sz
  refine g_start (maxL := 3) (ret := (some .int)) (by decide) rfl g_all (Nat.le_of_ble_eq_true rfl) ?_
  intro p e s m below meth c ls hr hlk hnm X h hl
  generalize gA ad μ0 sz = A at X h ⊢
  generalize ([.ref (ad b0), .int a1, .int a2] : List Value).toArray = args at X ⊢
  have X : gX p m c cX0_best 3 s args "SandPiano" Γ A := X
  have hl : lv_has ls 3 [(0, .ref (ad b0)), (1, .int a1), (2, .int a2)] := hl
  show W p l e ({ frames := 14, cells := 1, slots := 12, locals := 318 } : Room) s m args below meth c s.heap [] 0 0 (MQ below (gQ1 Γ ad μ0.1 r A) args s 1 12 A) (F0 m 0 ls [])
  unfold fX0_best at hf
  have hag : ∀ i, i < μ0.1 → ad i = ad i := fun _ _ => rfl
  refine lv_iload_n X.hx X.hb dX0_best_0 rfl (lv_at hl 1 rfl) ?_
  refine lv_iconst (v := 0) X.hx X.hb dX0_best_1 (by decide) ?_
  refine lv_iconst (v := 5) X.hx X.hb dX0_best_2 (by decide) ?_
  refine r_cSI (As := [.int a1, .int 0, .int 5]) (rest := []) X h hf (fun res hres => wX0_isIn l Γ ad _ a1 0 5 res hres) (va_cwS 3 X.hts (lw_S q344 q345 q82 q346) rfl rfl rfl (by decide +kernel) ⟨Nat.le_of_ble_eq_true rfl, Nat.le_of_ble_eq_true rfl⟩) rfl ⟨hl.1, Nat.le_of_ble_eq_true rfl, Nat.le_of_ble_eq_true rfl, Nat.le_of_ble_eq_true rfl⟩ rfl dX0_best_3 (fun x1 μ2 H locs hf h => ?_)
  refine lv_if_eq (tgt := 16) X.hx X.hb dX0_best_6 (by decide) (fun hc => ?_) (fun hc => ?_)
  · replace hf := gif_t hf hc
    clear hc
    refine lv_iconst (v := (-1)) X.hx X.hb dX0_best_16 (by decide) ?_
    exact r_ri1 X h hag hr hlk (Nat.le_of_ble_eq_true rfl) (Nat.le_of_ble_eq_true rfl) dX0_best_17 hf
  · replace hf := gif_f hf hc
    clear hc
    refine lv_iload_n X.hx X.hb dX0_best_9 rfl (lv_at hl 2 rfl) ?_
    refine r_cSI (As := [.int a2]) (rest := []) X h hf (fun res hres => wX0_isRow l Γ ad _ a2 res hres) (va_cwS 1 X.hts (lw_S q341 q342 q82 q343) rfl rfl rfl (by decide +kernel) ⟨Nat.le_of_ble_eq_true rfl, Nat.le_of_ble_eq_true rfl⟩) rfl ⟨hl.1, Nat.le_of_ble_eq_true rfl, Nat.le_of_ble_eq_true rfl, Nat.le_of_ble_eq_true rfl⟩ rfl dX0_best_10 (fun x3 μ4 H locs hf h => ?_)
    refine lv_if_ne (tgt := 18) X.hx X.hb dX0_best_13 (by decide) (fun hc => ?_) (fun hc => ?_)
    · replace hf := gif_f hf hc
      clear hc
      refine lv_aload_n X.hx X.hb dX0_best_18 rfl (lv_at hl 0 rfl) ?_
      refine r_getI X h (ci := 0) (k := 7) (C := RX0) (T := TX0) (N := 36) rfl in_X0 (by decide) q149 rfl dX0_best_19 hf (fun x5 hf => ?_)
      refine lv_if_ne (tgt := 28) X.hx X.hb dX0_best_22 (by decide) (fun hc => ?_) (fun hc => ?_)
      · replace hf := gif_f hf hc
        clear hc
        refine lv_aload_n X.hx X.hb dX0_best_28 rfl (lv_at hl 0 rfl) ?_
        refine lv_iconst (v := (-1)) X.hx X.hb dX0_best_29 (by decide) ?_
        refine r_put X h (ci := 0) (k := 29) (C := RX0) (T := TX0) (N := 36) (ty0 := tyX0) (ty := .int) (v := .int (-1)) rfl in_X0 tyX0_ok nmX0 (by decide) q171 rfl rfl (by decide +kernel) rfl rfl (fun j hj => by cases hj) dX0_best_30 hf (fun μ6 H locs hf h => ?_)
        refine lv_aload_n X.hx X.hb dX0_best_33 rfl (lv_at hl 0 rfl) ?_
        refine r_getP X h (ci := 0) (k := 25) (C := RX0) (T := TX0) (N := 36) rfl in_X0 (by decide) q167 rfl dX0_best_34 hf (fun i7 hf => ?_)
        refine lv_iconst (v := 0) X.hx X.hb dX0_best_37 (by decide) ?_
        refine r_aald X h (t := 7) rfl rfl dX0_best_38 hf (fun o8 hf => ?_)
        refine r_nn hf (fun i9 hf => ?_)
        refine lv_aload_n X.hx X.hb dX0_best_39 rfl (lv_at hl 0 rfl) ?_
        refine r_getP X h (ci := 0) (k := 10) (C := RX0) (T := TX0) (N := 36) rfl in_X0 (by decide) q152 rfl dX0_best_40 hf (fun i10 hf => ?_)
        refine r_cVV (As := [.ref (ad i10)]) (rest := []) (C := RX1) (T := TX1) (N := 1) X h hf (fun res hres => wX1_take l Γ ad _ i9 i10 res hres) rfl (cwV 1 X.hts (lw_V q832 q833 q834 q83 q835) rfl rfl rfl (by decide +kernel) ⟨Nat.le_of_ble_eq_true rfl, Nat.le_of_ble_eq_true rfl⟩) rfl ⟨hl.1, Nat.le_of_ble_eq_true rfl, Nat.le_of_ble_eq_true rfl, Nat.le_of_ble_eq_true rfl⟩ rfl dX0_best_43 (fun μ11 H locs hf h => ?_)
        refine lv_aload_n X.hx X.hb dX0_best_46 rfl (lv_at hl 0 rfl) ?_
        refine lv_iconst (v := 0) X.hx X.hb dX0_best_47 (by decide) ?_
        refine lv_iload_n X.hx X.hb dX0_best_48 rfl (lv_at hl 1 rfl) ?_
        refine r_cVV (As := [.int 0, .int a1]) (rest := []) (C := RX0) (T := TX0) (N := 36) X h hf (fun res hres => wX0_bestOn l Γ 8 ad _ b0 0 a1 res hres) rfl (cwV 2 X.hts (lw_V q896 q898 qs23 q82 q899) rfl rfl rfl (by decide +kernel) ⟨Nat.le_of_ble_eq_true rfl, Nat.le_of_ble_eq_true rfl⟩) rfl ⟨hl.1, Nat.le_of_ble_eq_true rfl, Nat.le_of_ble_eq_true rfl, Nat.le_of_ble_eq_true rfl⟩ rfl dX0_best_49 (fun μ12 H locs hf h => ?_)
        refine lv_aload_n X.hx X.hb dX0_best_52 rfl (lv_at hl 0 rfl) ?_
        refine r_getI X h (ci := 0) (k := 29) (C := RX0) (T := TX0) (N := 36) rfl in_X0 (by decide) q171 rfl dX0_best_53 hf (fun x13 hf => ?_)
        refine lv_if_ge (tgt := 62) X.hx X.hb dX0_best_56 (by decide) (fun hc => ?_) (fun hc => ?_)
        · replace hf := gif_t hf hc
          clear hc
          refine lv_aload_n X.hx X.hb dX0_best_62 rfl (lv_at hl 0 rfl) ?_
          refine lv_iload_n X.hx X.hb dX0_best_63 rfl (lv_at hl 2 rfl) ?_
          refine lv_aload_n X.hx X.hb dX0_best_64 rfl (lv_at hl 0 rfl) ?_
          refine r_getP X h (ci := 0) (k := 27) (C := RX0) (T := TX0) (N := 36) rfl in_X0 (by decide) q169 rfl dX0_best_65 hf (fun i14 hf => ?_)
          refine lv_iload_n X.hx X.hb dX0_best_68 rfl (lv_at hl 1 rfl) ?_
          obtain ⟨⟨ek0, hek0⟩, hf⟩ := glv_some hf
          have hlt0 := (h.1 _ _ hek0).1
          clear hek0 ek0
          have hle := h.2.2.2
          refine r_cVI1 (As := [.int a2, .ref (ad i14), .int a1]) (rest := []) (C := RX0) (T := TX0) (N := 36) X h hf (fun res hres => wX0_layRow l Γ ad _ b0 a2 i14 a1 res hres) rfl (cwV 3 X.hts (lw_V q865 q867 qs20 q82 q868) rfl rfl rfl (by decide +kernel) ⟨Nat.le_of_ble_eq_true rfl, Nat.le_of_ble_eq_true rfl⟩) rfl ⟨hl.1, Nat.le_of_ble_eq_true rfl, Nat.le_of_ble_eq_true rfl, Nat.le_of_ble_eq_true rfl⟩ rfl dX0_best_69 (fun x15 ad17 μ16 H locs hf hag1 h => ?_)
          replace hl : lv_has ls 3 [(0, .ref (ad17 b0)), (1, .int a1), (2, .int a2)] := by rw [hag1 b0 hlt0]; exact hl
          replace hag : ∀ i, i < μ0.1 → ad17 i = ad i := fun i hi => (hag1 i (Nat.lt_of_lt_of_le hi hle)).trans (hag i hi)
          clear hag1 hle hlt0
          refine lv_pop X.hx X.hb dX0_best_72 rfl ?_
          refine lv_aload_n X.hx X.hb dX0_best_73 rfl (lv_at hl 0 rfl) ?_
          refine r_getI X h (ci := 0) (k := 29) (C := RX0) (T := TX0) (N := 36) rfl in_X0 (by decide) q171 rfl dX0_best_74 hf (fun x18 hf => ?_)
          exact r_ri1 X h hag hr hlk (Nat.le_of_ble_eq_true rfl) (Nat.le_of_ble_eq_true rfl) dX0_best_77 hf
        · replace hf := gif_f hf hc
          clear hc
          refine lv_bipush (v := (-9)) X.hx X.hb dX0_best_59 (by decide) ?_
          exact r_ri1 X h hag hr hlk (Nat.le_of_ble_eq_true rfl) (Nat.le_of_ble_eq_true rfl) dX0_best_61 hf
      · replace hf := gif_t hf hc
        clear hc
        refine lv_bipush (v := (-4)) X.hx X.hb dX0_best_25 (by decide) ?_
        exact r_ri1 X h hag hr hlk (Nat.le_of_ble_eq_true rfl) (Nat.le_of_ble_eq_true rfl) dX0_best_27 hf
    · replace hf := gif_t hf hc
      clear hc
      refine lv_iconst (v := (-1)) X.hx X.hb dX0_best_16 (by decide) ?_
      exact r_ri1 X h hag hr hlk (Nat.le_of_ble_eq_true rfl) (Nat.le_of_ble_eq_true rfl) dX0_best_17 hf
/-! X0_has -/
def fX0_has (μ0 : gM) (a1 : Int32) (a2 : Int32) : gR := if ((a1 >>> (a2 &&& 31)) &&& 1) = 1 then (rZ 1 μ0) else (rZ 0 μ0)
set_option maxHeartbeats 4000000 in
theorem wX0_has (l : Launch) (Γ : gG) (ad : Nat → Nat) (μ0 : gM) (a1 : Int32) (a2 : Int32) (r : Option Value × gM) (hf : fX0_has μ0 a1 a2 = some r) : gMt0 l Γ yX0_has (ws_ yX0_has cX0_has 2 (some .boolean)) ({ frames := 0, cells := 0, slots := 0, locals := 0 } : Room) 0 0 ad μ0 [.int a1, .int a2] r := by
  intro sz
  refine g_start (maxL := 2) (ret := (some .boolean)) (by decide) rfl g_all (Nat.le_of_ble_eq_true rfl) ?_
  intro p e s m below meth c ls hr hlk hnm X h hl
  generalize gA ad μ0 sz = A at X h ⊢
  generalize ([.int a1, .int a2] : List Value).toArray = args at X ⊢
  have X : gX p m c cX0_has 2 s args "SandPiano" Γ A := X
  have hl : lv_has ls 2 [(0, .int a1), (1, .int a2)] := hl
  show W p l e ({ frames := 0, cells := 0, slots := 0, locals := 0 } : Room) s m args below meth c s.heap [] 0 0 (MQ below (gQ0 Γ ad μ0.1 r A) args s 0 0 A) (F0 m 0 ls [])
  unfold fX0_has at hf
  refine lv_iload_n X.hx X.hb dX0_has_0 rfl (lv_at hl 0 rfl) ?_
  refine lv_iload_n X.hx X.hb dX0_has_1 rfl (lv_at hl 1 rfl) ?_
  refine lv_ishr X.hx X.hb dX0_has_2 ?_
  refine lv_iconst (v := 1) X.hx X.hb dX0_has_3 (by decide) ?_
  refine lv_iand X.hx X.hb dX0_has_4 ?_
  refine lv_iconst (v := 1) X.hx X.hb dX0_has_5 (by decide) ?_
  refine lv_icmp_ne (tgt := 13) X.hx X.hb dX0_has_6 (by decide) (fun hc => ?_) (fun hc => ?_)
  · replace hf := gif_f hf hc
    clear hc
    refine lv_iconst (v := 0) X.hx X.hb dX0_has_13 (by decide) ?_
    exact r_rz X h hr hlk (Nat.le_of_ble_eq_true rfl) (Nat.le_of_ble_eq_true rfl) dX0_has_14 hf
  · replace hf := gif_t hf hc
    clear hc
    refine lv_iconst (v := 1) X.hx X.hb dX0_has_9 (by decide) ?_
    refine lv_goto (tgt := 14) X.hx X.hb dX0_has_10 (by decide) ?_
    exact r_rz X h hr hlk (Nat.le_of_ble_eq_true rfl) (Nat.le_of_ble_eq_true rfl) dX0_has_14 hf
/-! X0_playableIn -/
def fX0_playableIn_L4 (b0 : Nat) (b1 : Nat) : Nat → Int32 → Int32 → gM → gR
  | 0, _, _, _ => none
  | n4 + 1, x1, x2, μ3 => gI (gfld μ3 b0 0 7) fun x5 => if x5 ≤ x2 then (some (some (.int x1), μ3)) else (gP (gfld μ3 b0 0 9) fun i6 => gaQ μ3 5 i6 x2 fun o7 => gnn o7 fun i8 => cI (vX3_plays μ3 i8 b1) fun x9 μ10 => gjn (fun (x11 : Int32) (μ12 : gM) => gnm ((x1 ||| x11)) fun x14 => gnm (x2 + 1) fun x15 => fX0_playableIn_L4 b0 b1 n4 x14 x15 μ12) fun j13 => if x9 = 0 then (j13 0 μ10) else (j13 (1 <<< (x2 &&& 31)) μ10))
set_option maxHeartbeats 4000000 in
theorem wX0_playableIn_L4 {p : Program} {e : Env} {s : State} {m : MethodId} {args : Array Value} {below : List Frame} {meth : Method} {c : Code} {Γ : gG} {A : Nat → Prop} {nz : Nat} {ad : Nat → Nat} {r : Option Value × gM} (l : Launch) (b0 : Nat) (b1 : Nat) (X : gX p m c cX0_playableIn 4 s args "SandPiano" Γ A) (hr : meth.sig.returnType = (some .int)) (hlk : meth.locks = false) : ∀ (n4 : Nat) (x1 : Int32) (x2 : Int32) (μ3 : gM) (H : Heap) (locs : List Loc) (ls : Array Slot), fX0_playableIn_L4 b0 b1 n4 x1 x2 μ3 = some r → gWd Γ A nz ad μ3 s.heap H locs → lv_has ls 4 [(0, .ref (ad b0)), (1, .ref (ad b1)), (2, .int x1), (3, .int x2)] → W p l e ({ frames := 3, cells := 0, slots := 0, locals := 61 } : Room) s m args below meth c H locs 0 0 (MQ below (gQ0 Γ ad nz r A) args s 0 0 A) (F0 m 4 ls []) := by
  intro n4
  induction n4 with
  | zero =>
    intro x1 x2 μ3 H locs ls hf h hl
    have hf : (none : gR) = some r := hf
    cases hf
  | succ n4 ih =>
    intro x1 x2 μ3 H locs ls hf h hl
    rw [fX0_playableIn_L4] at hf
    refine lv_iload_n X.hx X.hb dX0_playableIn_4 rfl (lv_at hl 3 rfl) ?_
    refine lv_aload_n X.hx X.hb dX0_playableIn_5 rfl (lv_at hl 0 rfl) ?_
    refine r_getI X h (ci := 0) (k := 7) (C := RX0) (T := TX0) (N := 36) rfl in_X0 (by decide) q149 rfl dX0_playableIn_6 hf (fun x5 hf => ?_)
    refine lv_icmp_ge (tgt := 41) X.hx X.hb dX0_playableIn_9 (by decide) (fun hc => ?_) (fun hc => ?_)
    · replace hf := gif_t hf hc
      clear hc
      refine lv_iload_n X.hx X.hb dX0_playableIn_41 rfl (lv_at hl 2 rfl) ?_
      exact r_ri X h hr hlk (Nat.le_of_ble_eq_true rfl) (Nat.le_of_ble_eq_true rfl) dX0_playableIn_42 hf
    · replace hf := gif_f hf hc
      clear hc
      refine lv_iload_n X.hx X.hb dX0_playableIn_12 rfl (lv_at hl 2 rfl) ?_
      refine lv_aload_n X.hx X.hb dX0_playableIn_13 rfl (lv_at hl 0 rfl) ?_
      refine r_getP X h (ci := 0) (k := 9) (C := RX0) (T := TX0) (N := 36) rfl in_X0 (by decide) q151 rfl dX0_playableIn_14 hf (fun i6 hf => ?_)
      refine lv_iload_n X.hx X.hb dX0_playableIn_17 rfl (lv_at hl 3 rfl) ?_
      refine r_aald X h (t := 5) rfl rfl dX0_playableIn_18 hf (fun o7 hf => ?_)
      refine r_nn hf (fun i8 hf => ?_)
      refine lv_aload_n X.hx X.hb dX0_playableIn_19 rfl (lv_at hl 1 rfl) ?_
      refine wvX3_plays X h q597 (Nat.le_of_ble_eq_true rfl) (Nat.le_of_ble_eq_true rfl) (rest := [.int x1]) ⟨hl.1, Nat.le_of_ble_eq_true rfl, Nat.le_of_ble_eq_true rfl, Nat.le_of_ble_eq_true rfl⟩ rfl dX0_playableIn_20 hf (fun x9 μ10 H locs hf h => ?_)
      refine r_jn hf (fun j13 ej13 hf => ?_)
      have hj13 : ∀ (x11 : Int32) (μ12 : gM) (H : Heap) (locs : List Loc) (ls : Array Slot), j13 x11 μ12 = some r → gWd Γ A nz ad μ12 s.heap H locs → lv_has ls 4 [(0, .ref (ad b0)), (1, .ref (ad b1)), (3, .int x2)] → W p l e ({ frames := 3, cells := 0, slots := 0, locals := 61 } : Room) s m args below meth c H locs 0 0 (MQ below (gQ0 Γ ad nz r A) args s 0 0 A) (F0 m 33 ls [.int x11, .int x1]) := by
        intro x11 μ12 H locs ls hf h hl
        rw [ej13] at hf
        refine lv_ior X.hx X.hb dX0_playableIn_33 ?_
        refine r_nmI hf (fun x14 hf => ?_)
        refine lv_istore_n (lv' := [(2, .int x14), (0, .ref (ad b0)), (1, .ref (ad b1)), (3, .int x2)]) X.hx X.hb dX0_playableIn_34 rfl hl (by decide) rfl (fun ls hl => ?_)
        refine r_nmk hf (fun x15 ex hf => ?_)
        refine lv_iinc (v := x15) (lv' := [(3, .int x15), (2, .int x14), (0, .ref (ad b0)), (1, .ref (ad b1))]) X.hx X.hb dX0_playableIn_35 hl (k := 3) rfl (by rw [ex]; rfl) (by decide) rfl (fun ls hl => ?_)
        clear ex
        refine lv_goto (tgt := 4) X.hx X.hb dX0_playableIn_38 (by decide) ?_
        exact ih _ _ _ _ _ _ hf h (lv_sub hl [2, 3, 1, 0] rfl)
      clear ej13
      refine lv_if_eq (tgt := 32) X.hx X.hb dX0_playableIn_23 (by decide) (fun hc => ?_) (fun hc => ?_)
      · replace hf := gif_t hf hc
        clear hc
        refine lv_iconst (v := 0) X.hx X.hb dX0_playableIn_32 (by decide) ?_
        exact hj13 _ _ _ _ _ hf h (lv_sub hl [0, 1, 3] rfl)
      · replace hf := gif_f hf hc
        clear hc
        refine lv_iconst (v := 1) X.hx X.hb dX0_playableIn_26 (by decide) ?_
        refine lv_iload_n X.hx X.hb dX0_playableIn_27 rfl (lv_at hl 3 rfl) ?_
        refine lv_ishl X.hx X.hb dX0_playableIn_28 ?_
        refine lv_goto (tgt := 33) X.hx X.hb dX0_playableIn_29 (by decide) ?_
        exact hj13 _ _ _ _ _ hf h (lv_sub hl [0, 1, 3] rfl)
def fX0_playableIn (μ0 : gM) (b0 : Nat) (b1 : Nat) : gR := fX0_playableIn_L4 b0 b1 10000 0 0 μ0
set_option maxHeartbeats 4000000 in
theorem wX0_playableIn (l : Launch) (Γ : gG) (ad : Nat → Nat) (μ0 : gM) (b0 : Nat) (b1 : Nat) (r : Option Value × gM) (hf : fX0_playableIn μ0 b0 b1 = some r) : gMt0 l Γ yX0_playableIn (ws_ yX0_playableIn cX0_playableIn 4 (some .int)) ({ frames := 3, cells := 0, slots := 0, locals := 61 } : Room) 0 0 ad μ0 [.ref (ad b0), .ref (ad b1)] r := by
  intro sz
  refine g_start (maxL := 4) (ret := (some .int)) (by decide) rfl g_all (Nat.le_of_ble_eq_true rfl) ?_
  intro p e s m below meth c ls hr hlk hnm X h hl
  generalize gA ad μ0 sz = A at X h ⊢
  generalize ([.ref (ad b0), .ref (ad b1)] : List Value).toArray = args at X ⊢
  have X : gX p m c cX0_playableIn 4 s args "SandPiano" Γ A := X
  have hl : lv_has ls 4 [(0, .ref (ad b0)), (1, .ref (ad b1))] := hl
  show W p l e ({ frames := 3, cells := 0, slots := 0, locals := 61 } : Room) s m args below meth c s.heap [] 0 0 (MQ below (gQ0 Γ ad μ0.1 r A) args s 0 0 A) (F0 m 0 ls [])
  unfold fX0_playableIn at hf
  refine lv_iconst (v := 0) X.hx X.hb dX0_playableIn_0 (by decide) ?_
  refine lv_istore_n (lv' := [(2, .int 0), (0, .ref (ad b0)), (1, .ref (ad b1))]) X.hx X.hb dX0_playableIn_1 rfl hl (by decide) rfl (fun ls hl => ?_)
  refine lv_iconst (v := 0) X.hx X.hb dX0_playableIn_2 (by decide) ?_
  refine lv_istore_n (lv' := [(3, .int 0), (2, .int 0), (0, .ref (ad b0)), (1, .ref (ad b1))]) X.hx X.hb dX0_playableIn_3 rfl hl (by decide) rfl (fun ls hl => ?_)
  refine wX0_playableIn_L4 l b0 b1 X hr hlk 10000 _ _ _ _ _ _ hf h (lv_sub hl [2, 3, 1, 0] rfl)
/-! J11_bitCount -/
def fJ11_bitCount (μ0 : gM) (a1 : Int32) : gR := gnm ((a1 - (((((a1) : Int32).toUInt32 >>> (((1) : Int32).toUInt32 &&& Int32.toUInt32 31)).toInt32) &&& 1431655765))) fun x1 => gnm (((x1 &&& 858993459) + (((((x1) : Int32).toUInt32 >>> (((2) : Int32).toUInt32 &&& Int32.toUInt32 31)).toInt32) &&& 858993459))) fun x2 => gnm (((x2 + ((((x2) : Int32).toUInt32 >>> (((4) : Int32).toUInt32 &&& Int32.toUInt32 31)).toInt32)) &&& 252645135)) fun x3 => gnm ((x3 + ((((x3) : Int32).toUInt32 >>> (((8) : Int32).toUInt32 &&& Int32.toUInt32 31)).toInt32))) fun x4 => gnm ((x4 + ((((x4) : Int32).toUInt32 >>> (((16) : Int32).toUInt32 &&& Int32.toUInt32 31)).toInt32))) fun x5 => some (some (.int (x5 &&& 63)), μ0)
set_option maxHeartbeats 4000000 in
theorem wJ11_bitCount (l : Launch) (Γ : gG) (ad : Nat → Nat) (μ0 : gM) (a1 : Int32) (r : Option Value × gM) (hf : fJ11_bitCount μ0 a1 = some r) : gMt0 l Γ yJ11_bitCount (ws_ yJ11_bitCount cJ11_bitCount 1 (some .int)) ({ frames := 0, cells := 0, slots := 0, locals := 0 } : Room) 0 0 ad μ0 [.int a1] r := by
  intro sz
  refine g_startF (maxL := 1) (ret := (some .int)) (by decide +kernel) rfl g_all (Nat.le_of_ble_eq_true rfl) ?_
  intro p e s m below meth c ls hr hlk hnm X h hl
  generalize gA ad μ0 sz = A at X h ⊢
  generalize ([.int a1] : List Value).toArray = args at X ⊢
  have X : gX p m c cJ11_bitCount 1 s args "java/lang/Integer" Γ A := X
  have hl : lv_has ls 1 [(0, .int a1)] := hl
  show W p l e ({ frames := 0, cells := 0, slots := 0, locals := 0 } : Room) s m args below meth c s.heap [] 0 0 (MQ below (gQ0 Γ ad μ0.1 r A) args s 0 0 A) (F0 m 0 ls [])
  unfold fJ11_bitCount at hf
  refine lv_iload_n X.hx X.hb dJ11_bitCount_0 rfl (lv_at hl 0 rfl) ?_
  refine lv_iload_n X.hx X.hb dJ11_bitCount_1 rfl (lv_at hl 0 rfl) ?_
  refine lv_iconst (v := 1) X.hx X.hb dJ11_bitCount_2 (by decide) ?_
  refine lv_iushr X.hx X.hb dJ11_bitCount_3 rfl ?_
  refine r_ldcw X (v := 1431655765) q707 dJ11_bitCount_4 ?_
  refine lv_iand X.hx X.hb dJ11_bitCount_7 ?_
  refine lv_isub X.hx X.hb dJ11_bitCount_8 ?_
  refine r_nmI hf (fun x1 hf => ?_)
  refine lv_istore_n (lv' := [(0, .int x1)]) X.hx X.hb dJ11_bitCount_9 rfl hl (by decide) rfl (fun ls hl => ?_)
  refine lv_iload_n X.hx X.hb dJ11_bitCount_10 rfl (lv_at hl 0 rfl) ?_
  refine r_ldcw X (v := 858993459) q708 dJ11_bitCount_11 ?_
  refine lv_iand X.hx X.hb dJ11_bitCount_14 ?_
  refine lv_iload_n X.hx X.hb dJ11_bitCount_15 rfl (lv_at hl 0 rfl) ?_
  refine lv_iconst (v := 2) X.hx X.hb dJ11_bitCount_16 (by decide) ?_
  refine lv_iushr X.hx X.hb dJ11_bitCount_17 rfl ?_
  refine r_ldcw X (v := 858993459) q708 dJ11_bitCount_18 ?_
  refine lv_iand X.hx X.hb dJ11_bitCount_21 ?_
  refine lv_iadd X.hx X.hb dJ11_bitCount_22 ?_
  refine r_nmI hf (fun x2 hf => ?_)
  refine lv_istore_n (lv' := [(0, .int x2)]) X.hx X.hb dJ11_bitCount_23 rfl hl (by decide) rfl (fun ls hl => ?_)
  refine lv_iload_n X.hx X.hb dJ11_bitCount_24 rfl (lv_at hl 0 rfl) ?_
  refine lv_iload_n X.hx X.hb dJ11_bitCount_25 rfl (lv_at hl 0 rfl) ?_
  refine lv_iconst (v := 4) X.hx X.hb dJ11_bitCount_26 (by decide) ?_
  refine lv_iushr X.hx X.hb dJ11_bitCount_27 rfl ?_
  refine lv_iadd X.hx X.hb dJ11_bitCount_28 ?_
  refine r_ldcw X (v := 252645135) q709 dJ11_bitCount_29 ?_
  refine lv_iand X.hx X.hb dJ11_bitCount_32 ?_
  refine r_nmI hf (fun x3 hf => ?_)
  refine lv_istore_n (lv' := [(0, .int x3)]) X.hx X.hb dJ11_bitCount_33 rfl hl (by decide) rfl (fun ls hl => ?_)
  refine lv_iload_n X.hx X.hb dJ11_bitCount_34 rfl (lv_at hl 0 rfl) ?_
  refine lv_iload_n X.hx X.hb dJ11_bitCount_35 rfl (lv_at hl 0 rfl) ?_
  refine lv_bipush (v := 8) X.hx X.hb dJ11_bitCount_36 (by decide) ?_
  refine lv_iushr X.hx X.hb dJ11_bitCount_38 rfl ?_
  refine lv_iadd X.hx X.hb dJ11_bitCount_39 ?_
  refine r_nmI hf (fun x4 hf => ?_)
  refine lv_istore_n (lv' := [(0, .int x4)]) X.hx X.hb dJ11_bitCount_40 rfl hl (by decide) rfl (fun ls hl => ?_)
  refine lv_iload_n X.hx X.hb dJ11_bitCount_41 rfl (lv_at hl 0 rfl) ?_
  refine lv_iload_n X.hx X.hb dJ11_bitCount_42 rfl (lv_at hl 0 rfl) ?_
  refine lv_bipush (v := 16) X.hx X.hb dJ11_bitCount_43 (by decide) ?_
  refine lv_iushr X.hx X.hb dJ11_bitCount_45 rfl ?_
  refine lv_iadd X.hx X.hb dJ11_bitCount_46 ?_
  refine r_nmI hf (fun x5 hf => ?_)
  refine lv_istore_n (lv' := [(0, .int x5)]) X.hx X.hb dJ11_bitCount_47 rfl hl (by decide) rfl (fun ls hl => ?_)
  refine lv_iload_n X.hx X.hb dJ11_bitCount_48 rfl (lv_at hl 0 rfl) ?_
  refine lv_bipush (v := 63) X.hx X.hb dJ11_bitCount_49 (by decide) ?_
  refine lv_iand X.hx X.hb dJ11_bitCount_51 ?_
  exact r_ri X h hr hlk (Nat.le_of_ble_eq_true rfl) (Nat.le_of_ble_eq_true rfl) dJ11_bitCount_52 hf
/-! X0_betOn -/
def fX0_betOn_L29 (rec : gM → Nat → Int32 → Int32 → Int32 → Int64 → gR) (b0 : Nat) (a2 : Int32) (a3 : Int32) (x4 : Int32) (kx49 : Int64 → gM → gR) : Nat → Int64 → Int32 → gM → gR
  | 0, _, _, _ => none
  | n11 + 1, x8, x9, μ10 => if a2 ≤ x9 then (kx49 x8 μ10) else (gnm ((x8 * 60)) fun x12 => gnm (x9 + 1) fun x13 => fX0_betOn_L29 rec b0 a2 a3 x4 kx49 n11 x12 x13 μ10)
set_option maxHeartbeats 4000000 in
theorem wX0_betOn_L29 {p : Program} {e : Env} {s : State} {m : MethodId} {args : Array Value} {below : List Frame} {meth : Method} {c : Code} {Γ : gG} {A : Nat → Prop} {nz : Nat} {ad : Nat → Nat} {r : Option Value × gM} (l : Launch) (dd : Nat) (rec : gM → Nat → Int32 → Int32 → Int32 → Int64 → gR) (b0 : Nat) (a2 : Int32) (a3 : Int32) (x4 : Int32) (kx49 : Int64 → gM → gR) (X : gX p m c cX0_betOn 10 s args "SandPiano" Γ A) (hr : meth.sig.returnType = none) (hlk : meth.locks = false) (hrec : ∀ (ad : Nat → Nat) (μ : gM) (b0 : Nat) (a1 : Int32) (a2 : Int32) (a3 : Int32) (a4 : Int64) (r : Option Value × gM), rec μ b0 a1 a2 a3 a4 = some r → gMt0 l Γ yX0_betOn (ws_ yX0_betOn cX0_betOn 10 none) ({ frames := 5 + dd, cells := 0, slots := 0, locals := 111 + dd * 29 } : Room) 0 0 ad μ [.ref (ad b0), .int a1, .int a2, .int a3, .long a4] r) (hk49 : ∀ (x14 : Int64) (μ : gM) (H : Heap) (locs : List Loc) (ls : Array Slot), kx49 x14 μ = some r → gWd Γ A nz ad μ s.heap H locs → lv_has ls 10 [(0, .ref (ad b0)), (3, .int a3), (6, .int x4), (7, .long x14)] → W p l e ({ frames := 5 + (dd + 1), cells := 0, slots := 0, locals := 111 + (dd + 1) * 29 } : Room) s m args below meth c H locs 0 0 (MQ below (gQ0 Γ ad nz r A) args s 0 0 A) (F0 m 49 ls [])) : ∀ (n11 : Nat) (x8 : Int64) (x9 : Int32) (μ10 : gM) (H : Heap) (locs : List Loc) (ls : Array Slot), fX0_betOn_L29 rec b0 a2 a3 x4 kx49 n11 x8 x9 μ10 = some r → gWd Γ A nz ad μ10 s.heap H locs → lv_has ls 10 [(0, .ref (ad b0)), (2, .int a2), (3, .int a3), (6, .int x4), (7, .long x8), (9, .int x9)] → W p l e ({ frames := 5 + (dd + 1), cells := 0, slots := 0, locals := 111 + (dd + 1) * 29 } : Room) s m args below meth c H locs 0 0 (MQ below (gQ0 Γ ad nz r A) args s 0 0 A) (F0 m 29 ls []) := by
  intro n11
  induction n11 with
  | zero =>
    intro x8 x9 μ10 H locs ls hf h hl
    have hf : (none : gR) = some r := hf
    cases hf
  | succ n11 ih =>
    intro x8 x9 μ10 H locs ls hf h hl
    rw [fX0_betOn_L29] at hf
    refine lv_iload X.hx X.hb dX0_betOn_29 (lv_at hl 5 rfl) ?_
    refine lv_iload_n X.hx X.hb dX0_betOn_31 rfl (lv_at hl 1 rfl) ?_
    refine lv_icmp_ge (tgt := 49) X.hx X.hb dX0_betOn_32 (by decide) (fun hc => ?_) (fun hc => ?_)
    · replace hf := gif_t hf hc
      clear hc
      exact hk49 _ _ _ _ _ hf h (lv_sub hl [0, 2, 3, 4] rfl)
    · replace hf := gif_f hf hc
      clear hc
      refine lv_lload X.hx X.hb dX0_betOn_35 (lv_at hl 4 rfl) ?_
      refine lv_ldc2 (v := 60) X.hx X.hb X.hown (X.hts _ q966) dX0_betOn_37 ?_
      refine lv_lmul X.hx X.hb dX0_betOn_40 ?_
      refine r_nmJ hf (fun x12 hf => ?_)
      refine lv_lstore (lv' := [(7, .long x12), (0, .ref (ad b0)), (2, .int a2), (3, .int a3), (6, .int x4), (9, .int x9)]) X.hx X.hb dX0_betOn_41 hl (by decide) rfl (fun ls hl => ?_)
      refine r_nmk hf (fun x13 ex hf => ?_)
      refine lv_iinc (v := x13) (lv' := [(9, .int x13), (7, .long x12), (0, .ref (ad b0)), (2, .int a2), (3, .int a3), (6, .int x4)]) X.hx X.hb dX0_betOn_43 hl (k := 5) rfl (by rw [ex]; rfl) (by decide) rfl (fun ls hl => ?_)
      clear ex
      refine lv_goto (tgt := 29) X.hx X.hb dX0_betOn_46 (by decide) ?_
      exact ih _ _ _ _ _ _ hf h (lv_sub hl [2, 3, 4, 5, 1, 0] rfl)
def fX0_betOn_L77 (rec : gM → Nat → Int32 → Int32 → Int32 → Int64 → gR) (b0 : Nat) (a1 : Int32) (a2 : Int32) (a3 : Int32) (a4 : Int64) (x4 : Int32) : Nat → Int32 → gM → gR
  | 0, _, _ => none
  | n26 + 1, x24, μ25 => gI (gfld μ25 b0 0 7) fun x27 => if x27 ≤ x24 then (some (none, μ25)) else (cI (fX0_has μ25 x4 x24) fun x28 μ29 => gjn (fun  (μ30 : gM) => gnm (x24 + 1) fun x32 => fX0_betOn_L77 rec b0 a1 a2 a3 a4 x4 n26 x32 μ30) fun j31 => if x28 = 0 then (j31 μ29) else (gis μ29 b0 0 <| cV (fX0_goDeep μ29 b0 a1 x24) fun μ33 => cI (fJ11_bitCount μ33 x4) fun x34 μ35 => gne x34 0 <| gis μ35 b0 0 <| cV (rec μ35 b0 (a1 + 1) a2 a3 (a4 * (((60 / x34) : Int32).toInt64))) fun μ36 => j31 μ36))
set_option maxHeartbeats 4000000 in
theorem wX0_betOn_L77 {p : Program} {e : Env} {s : State} {m : MethodId} {args : Array Value} {below : List Frame} {meth : Method} {c : Code} {Γ : gG} {A : Nat → Prop} {nz : Nat} {ad : Nat → Nat} {r : Option Value × gM} (l : Launch) (dd : Nat) (rec : gM → Nat → Int32 → Int32 → Int32 → Int64 → gR) (b0 : Nat) (a1 : Int32) (a2 : Int32) (a3 : Int32) (a4 : Int64) (x4 : Int32) (X : gX p m c cX0_betOn 10 s args "SandPiano" Γ A) (hr : meth.sig.returnType = none) (hlk : meth.locks = false) (hrec : ∀ (ad : Nat → Nat) (μ : gM) (b0 : Nat) (a1 : Int32) (a2 : Int32) (a3 : Int32) (a4 : Int64) (r : Option Value × gM), rec μ b0 a1 a2 a3 a4 = some r → gMt0 l Γ yX0_betOn (ws_ yX0_betOn cX0_betOn 10 none) ({ frames := 5 + dd, cells := 0, slots := 0, locals := 111 + dd * 29 } : Room) 0 0 ad μ [.ref (ad b0), .int a1, .int a2, .int a3, .long a4] r) : ∀ (n26 : Nat) (x24 : Int32) (μ25 : gM) (H : Heap) (locs : List Loc) (ls : Array Slot), fX0_betOn_L77 rec b0 a1 a2 a3 a4 x4 n26 x24 μ25 = some r → gWd Γ A nz ad μ25 s.heap H locs → lv_has ls 10 [(0, .ref (ad b0)), (1, .int a1), (2, .int a2), (3, .int a3), (4, .long a4), (6, .int x4), (7, .int x24)] → W p l e ({ frames := 5 + (dd + 1), cells := 0, slots := 0, locals := 111 + (dd + 1) * 29 } : Room) s m args below meth c H locs 0 0 (MQ below (gQ0 Γ ad nz r A) args s 0 0 A) (F0 m 77 ls []) := by
  intro n26
  induction n26 with
  | zero =>
    intro x24 μ25 H locs ls hf h hl
    have hf : (none : gR) = some r := hf
    cases hf
  | succ n26 ih =>
    intro x24 μ25 H locs ls hf h hl
    rw [fX0_betOn_L77] at hf
    refine lv_iload X.hx X.hb dX0_betOn_77 (lv_at hl 6 rfl) ?_
    refine lv_aload_n X.hx X.hb dX0_betOn_79 rfl (lv_at hl 0 rfl) ?_
    refine r_getI X h (ci := 0) (k := 7) (C := RX0) (T := TX0) (N := 36) rfl in_X0 (by decide) q149 rfl dX0_betOn_80 hf (fun x27 hf => ?_)
    refine lv_icmp_ge (tgt := 130) X.hx X.hb dX0_betOn_83 (by decide) (fun hc => ?_) (fun hc => ?_)
    · replace hf := gif_t hf hc
      clear hc
      exact r_rv X h hr hlk ((by first | exact Nat.le_of_ble_eq_true rfl | omega | (dsimp only; omega))) ((by first | exact Nat.le_of_ble_eq_true rfl | omega | (dsimp only; omega))) dX0_betOn_130 hf
    · replace hf := gif_f hf hc
      clear hc
      refine lv_iload X.hx X.hb dX0_betOn_86 (lv_at hl 5 rfl) ?_
      refine lv_iload X.hx X.hb dX0_betOn_88 (lv_at hl 6 rfl) ?_
      refine r_cSI (As := [.int x4, .int x24]) (rest := []) X h hf (fun res hres => wX0_has l Γ ad _ x4 x24 res hres) (va_cwS 2 X.hts (lw_S q885 q886 q82 q887) rfl rfl rfl (by decide +kernel) ⟨(by first | exact Nat.le_of_ble_eq_true rfl | omega | (dsimp only; omega)), (by first | exact Nat.le_of_ble_eq_true rfl | omega | (dsimp only; omega))⟩) rfl ⟨hl.1, Nat.le_of_ble_eq_true rfl, (by first | exact Nat.le_of_ble_eq_true rfl | omega | (dsimp only; omega)), (by first | exact Nat.le_of_ble_eq_true rfl | omega | (dsimp only; omega))⟩ rfl dX0_betOn_90 (fun x28 μ29 H locs hf h => ?_)
      refine r_jn hf (fun j31 ej31 hf => ?_)
      have hj31 : ∀  (μ30 : gM) (H : Heap) (locs : List Loc) (ls : Array Slot), j31  μ30 = some r → gWd Γ A nz ad μ30 s.heap H locs → lv_has ls 10 [(0, .ref (ad b0)), (1, .int a1), (2, .int a2), (3, .int a3), (4, .long a4), (6, .int x4), (7, .int x24)] → W p l e ({ frames := 5 + (dd + 1), cells := 0, slots := 0, locals := 111 + (dd + 1) * 29 } : Room) s m args below meth c H locs 0 0 (MQ below (gQ0 Γ ad nz r A) args s 0 0 A) (F0 m 124 ls []) := by
        intro μ30 H locs ls hf h hl
        rw [ej31] at hf
        refine r_nmk hf (fun x32 ex hf => ?_)
        refine lv_iinc (v := x32) (lv' := [(7, .int x32), (0, .ref (ad b0)), (1, .int a1), (2, .int a2), (3, .int a3), (4, .long a4), (6, .int x4)]) X.hx X.hb dX0_betOn_124 hl (k := 6) rfl (by rw [ex]; rfl) (by decide) rfl (fun ls hl => ?_)
        clear ex
        refine lv_goto (tgt := 77) X.hx X.hb dX0_betOn_127 (by decide) ?_
        exact ih _ _ _ _ _ hf h (lv_sub hl [1, 2, 3, 4, 5, 6, 0] rfl)
      clear ej31
      refine lv_if_eq (tgt := 124) X.hx X.hb dX0_betOn_93 (by decide) (fun hc => ?_) (fun hc => ?_)
      · replace hf := gif_t hf hc
        clear hc
        exact hj31 _ _ _ _ hf h (lv_sub hl [0, 1, 2, 3, 4, 5, 6] rfl)
      · replace hf := gif_f hf hc
        clear hc
        refine lv_aload_n X.hx X.hb dX0_betOn_96 rfl (lv_at hl 0 rfl) ?_
        refine lv_iload_n X.hx X.hb dX0_betOn_97 rfl (lv_at hl 1 rfl) ?_
        refine lv_iload X.hx X.hb dX0_betOn_98 (lv_at hl 6 rfl) ?_
        refine r_cVV (As := [.int a1, .int x24]) (rest := []) (C := RX0) (T := TX0) (N := 36) X h hf (fun res hres => wX0_goDeep l Γ ad _ b0 a1 x24 res hres) rfl (cwV 2 X.hts (lw_V q888 q890 qs22 q82 q891) rfl rfl rfl (by decide +kernel) ⟨(by first | exact Nat.le_of_ble_eq_true rfl | omega | (dsimp only; omega)), (by first | exact Nat.le_of_ble_eq_true rfl | omega | (dsimp only; omega))⟩) rfl ⟨hl.1, Nat.le_of_ble_eq_true rfl, (by first | exact Nat.le_of_ble_eq_true rfl | omega | (dsimp only; omega)), (by first | exact Nat.le_of_ble_eq_true rfl | omega | (dsimp only; omega))⟩ rfl dX0_betOn_100 (fun μ33 H locs hf h => ?_)
        refine lv_aload_n X.hx X.hb dX0_betOn_103 rfl (lv_at hl 0 rfl) ?_
        refine lv_iload_n X.hx X.hb dX0_betOn_104 rfl (lv_at hl 1 rfl) ?_
        refine lv_iconst (v := 1) X.hx X.hb dX0_betOn_105 (by decide) ?_
        refine lv_iadd X.hx X.hb dX0_betOn_106 ?_
        refine lv_iload_n X.hx X.hb dX0_betOn_107 rfl (lv_at hl 2 rfl) ?_
        refine lv_iload_n X.hx X.hb dX0_betOn_108 rfl (lv_at hl 3 rfl) ?_
        refine lv_lload X.hx X.hb dX0_betOn_109 (lv_at hl 4 rfl) ?_
        refine lv_bipush (v := 60) X.hx X.hb dX0_betOn_111 (by decide) ?_
        refine lv_iload X.hx X.hb dX0_betOn_113 (lv_at hl 5 rfl) ?_
        refine r_cSI (As := [.int x4]) (rest := [.int 60, .long a4, .int a3, .int a2, .int (a1 + 1), .ref (ad b0)]) X h hf (fun res hres => wJ11_bitCount l Γ ad _ x4 res hres) (va_cwS 1 X.hts (lw_S q944 q705 q103 q706) rfl rfl rfl (by decide +kernel) ⟨(by first | exact Nat.le_of_ble_eq_true rfl | omega | (dsimp only; omega)), (by first | exact Nat.le_of_ble_eq_true rfl | omega | (dsimp only; omega))⟩) rfl ⟨hl.1, Nat.le_of_ble_eq_true rfl, (by first | exact Nat.le_of_ble_eq_true rfl | omega | (dsimp only; omega)), (by first | exact Nat.le_of_ble_eq_true rfl | omega | (dsimp only; omega))⟩ rfl dX0_betOn_115 (fun x34 μ35 H locs hf h => ?_)
        obtain ⟨hne, hf⟩ := gne_some hf
        refine lv_idiv X.hx X.hb dX0_betOn_118 hne ?_
        refine lv_i2l X.hx X.hb dX0_betOn_119 rfl ?_
        refine lv_lmul X.hx X.hb dX0_betOn_120 ?_
        refine r_cVV (As := [.int (a1 + 1), .int a2, .int a3, .long (a4 * (((60 / x34) : Int32).toInt64))]) (rest := []) (C := RX0) (T := TX0) (N := 36) X h hf (fun res hres => hrec ad _ b0 (a1 + 1) a2 a3 (a4 * (((60 / x34) : Int32).toInt64)) res hres) rfl (cwV 4 X.hts (lw_V q962 q964 qs32 q82 q965) rfl rfl rfl (by decide +kernel) ⟨(by first | exact Nat.le_of_ble_eq_true rfl | omega | (dsimp only; omega)), (by first | exact Nat.le_of_ble_eq_true rfl | omega | (dsimp only; omega))⟩) rfl ⟨hl.1, Nat.le_of_ble_eq_true rfl, (by first | exact Nat.le_of_ble_eq_true rfl | omega | (dsimp only; omega)), (by first | exact Nat.le_of_ble_eq_true rfl | omega | (dsimp only; omega))⟩ rfl dX0_betOn_121 (fun μ36 H locs hf h => ?_)
        exact hj31 _ _ _ _ hf h (lv_sub hl [0, 1, 2, 3, 4, 5, 6] rfl)
def fX0_betOn_B (rec : gM → Nat → Int32 → Int32 → Int32 → Int64 → gR) (μ0 : gM) (b0 : Nat) (a1 : Int32) (a2 : Int32) (a3 : Int32) (a4 : Int64) : gR := gP (gfld μ0 b0 0 25) fun i1 => gaQ μ0 7 i1 a1 fun o2 => gnn o2 fun i3 => gis μ0 b0 0 <| cI (fX0_playableIn μ0 b0 i3) fun x4 μ5 => gjn (fun  (μ6 : gM) => fX0_betOn_L29 rec b0 a2 a3 x4 (fun (x15 : Int64) (μ16 : gM) => gJ (gfld μ16 b0 0 34) fun x17 => cI (fX0_has μ16 x4 a3) fun x18 μ19 => gjn (fun (x20 : Int64) (μ21 : gM) => gpf μ21 b0 0 34 (.long (x17 + x20)) fun μ23 => some (none, μ23)) fun j22 => if x18 = 0 then (j22 0 μ19) else (j22 x15 μ19)) 10000 a4 a1 μ6) fun j7 => if a1 = a2 then (j7 μ5) else (if x4 = 0 then (j7 μ5) else (fX0_betOn_L77 rec b0 a1 a2 a3 a4 x4 10000 0 μ5))
set_option maxHeartbeats 4000000 in
theorem wX0_betOn_B (l : Launch) (Γ : gG) (dd : Nat) (rec : gM → Nat → Int32 → Int32 → Int32 → Int64 → gR) (hrec : ∀ (ad : Nat → Nat) (μ : gM) (b0 : Nat) (a1 : Int32) (a2 : Int32) (a3 : Int32) (a4 : Int64) (r : Option Value × gM), rec μ b0 a1 a2 a3 a4 = some r → gMt0 l Γ yX0_betOn (ws_ yX0_betOn cX0_betOn 10 none) ({ frames := 5 + dd, cells := 0, slots := 0, locals := 111 + dd * 29 } : Room) 0 0 ad μ [.ref (ad b0), .int a1, .int a2, .int a3, .long a4] r) (ad : Nat → Nat) (μ0 : gM) (b0 : Nat) (a1 : Int32) (a2 : Int32) (a3 : Int32) (a4 : Int64) (r : Option Value × gM) (hf : fX0_betOn_B rec μ0 b0 a1 a2 a3 a4 = some r) : gMt0 l Γ yX0_betOn (ws_ yX0_betOn cX0_betOn 10 none) ({ frames := 5 + (dd + 1), cells := 0, slots := 0, locals := 111 + (dd + 1) * 29 } : Room) 0 0 ad μ0 [.ref (ad b0), .int a1, .int a2, .int a3, .long a4] r := by
  intro sz
  refine g_start (maxL := 10) (ret := none) (by decide) rfl g_all (Nat.le_of_ble_eq_true rfl) ?_
  intro p e s m below meth c ls hr hlk hnm X h hl
  generalize gA ad μ0 sz = A at X h ⊢
  generalize ([.ref (ad b0), .int a1, .int a2, .int a3, .long a4] : List Value).toArray = args at X ⊢
  have X : gX p m c cX0_betOn 10 s args "SandPiano" Γ A := X
  have hl : lv_has ls 10 [(0, .ref (ad b0)), (1, .int a1), (2, .int a2), (3, .int a3), (4, .long a4)] := hl
  show W p l e ({ frames := 5 + (dd + 1), cells := 0, slots := 0, locals := 111 + (dd + 1) * 29 } : Room) s m args below meth c s.heap [] 0 0 (MQ below (gQ0 Γ ad μ0.1 r A) args s 0 0 A) (F0 m 0 ls [])
  unfold fX0_betOn_B at hf
  refine lv_aload_n X.hx X.hb dX0_betOn_0 rfl (lv_at hl 0 rfl) ?_
  refine lv_aload_n X.hx X.hb dX0_betOn_1 rfl (lv_at hl 0 rfl) ?_
  refine r_getP X h (ci := 0) (k := 25) (C := RX0) (T := TX0) (N := 36) rfl in_X0 (by decide) q167 rfl dX0_betOn_2 hf (fun i1 hf => ?_)
  refine lv_iload_n X.hx X.hb dX0_betOn_5 rfl (lv_at hl 1 rfl) ?_
  refine r_aald X h (t := 7) rfl rfl dX0_betOn_6 hf (fun o2 hf => ?_)
  refine r_nn hf (fun i3 hf => ?_)
  refine r_cVI (As := [.ref (ad i3)]) (rest := []) (C := RX0) (T := TX0) (N := 36) X h hf (fun res hres => wX0_playableIn l Γ ad _ b0 i3 res hres) rfl (cwV 1 X.hts (lw_V q700 q702 qs12 q82 q703) rfl rfl rfl (by decide +kernel) ⟨(by first | exact Nat.le_of_ble_eq_true rfl | omega | (dsimp only; omega)), (by first | exact Nat.le_of_ble_eq_true rfl | omega | (dsimp only; omega))⟩) rfl ⟨hl.1, Nat.le_of_ble_eq_true rfl, (by first | exact Nat.le_of_ble_eq_true rfl | omega | (dsimp only; omega)), (by first | exact Nat.le_of_ble_eq_true rfl | omega | (dsimp only; omega))⟩ rfl dX0_betOn_7 (fun x4 μ5 H locs hf h => ?_)
  refine lv_istore (lv' := [(6, .int x4), (0, .ref (ad b0)), (1, .int a1), (2, .int a2), (3, .int a3), (4, .long a4)]) X.hx X.hb dX0_betOn_10 hl (by decide) rfl (fun ls hl => ?_)
  refine lv_iload_n X.hx X.hb dX0_betOn_12 rfl (lv_at hl 2 rfl) ?_
  refine lv_iload_n X.hx X.hb dX0_betOn_13 rfl (lv_at hl 3 rfl) ?_
  refine r_jn hf (fun j7 ej7 hf => ?_)
  have hj7 : ∀  (μ6 : gM) (H : Heap) (locs : List Loc) (ls : Array Slot), j7  μ6 = some r → gWd Γ A μ0.1 ad μ6 s.heap H locs → lv_has ls 10 [(0, .ref (ad b0)), (1, .int a1), (2, .int a2), (3, .int a3), (4, .long a4), (6, .int x4)] → W p l e ({ frames := 5 + (dd + 1), cells := 0, slots := 0, locals := 111 + (dd + 1) * 29 } : Room) s m args below meth c H locs 0 0 (MQ below (gQ0 Γ ad μ0.1 r A) args s 0 0 A) (F0 m 22 ls []) := by
    intro μ6 H locs ls hf h hl
    rw [ej7] at hf
    refine lv_lload X.hx X.hb dX0_betOn_22 (lv_at hl 4 rfl) ?_
    refine lv_lstore (lv' := [(7, .long a4), (0, .ref (ad b0)), (1, .int a1), (2, .int a2), (3, .int a3), (4, .long a4), (6, .int x4)]) X.hx X.hb dX0_betOn_24 hl (by decide) rfl (fun ls hl => ?_)
    refine lv_iload_n X.hx X.hb dX0_betOn_26 rfl (lv_at hl 2 rfl) ?_
    refine lv_istore (lv' := [(9, .int a1), (7, .long a4), (0, .ref (ad b0)), (1, .int a1), (2, .int a2), (3, .int a3), (4, .long a4), (6, .int x4)]) X.hx X.hb dX0_betOn_27 hl (by decide) rfl (fun ls hl => ?_)
    refine wX0_betOn_L29 l _ rec b0 a2 a3 x4 _ X hr hlk hrec (fun x15 μ16 H locs ls hf h hl => ?_) 10000 _ _ _ _ _ _ hf h (lv_sub hl [2, 4, 5, 7, 1, 0] rfl)
    refine lv_aload_n X.hx X.hb dX0_betOn_49 rfl (lv_at hl 0 rfl) ?_
    refine lv_dup X.hx X.hb dX0_betOn_50 rfl ?_
    refine r_getJ X h (ci := 0) (k := 34) (C := RX0) (T := TX0) (N := 36) rfl in_X0 (by decide) q176 rfl dX0_betOn_51 hf (fun x17 hf => ?_)
    refine lv_iload X.hx X.hb dX0_betOn_54 (lv_at hl 2 rfl) ?_
    refine lv_iload_n X.hx X.hb dX0_betOn_56 rfl (lv_at hl 1 rfl) ?_
    refine r_cSI (As := [.int x4, .int a3]) (rest := [.long x17, .ref (ad b0)]) X h hf (fun res hres => wX0_has l Γ ad _ x4 a3 res hres) (va_cwS 2 X.hts (lw_S q885 q886 q82 q887) rfl rfl rfl (by decide +kernel) ⟨(by first | exact Nat.le_of_ble_eq_true rfl | omega | (dsimp only; omega)), (by first | exact Nat.le_of_ble_eq_true rfl | omega | (dsimp only; omega))⟩) rfl ⟨hl.1, Nat.le_of_ble_eq_true rfl, (by first | exact Nat.le_of_ble_eq_true rfl | omega | (dsimp only; omega)), (by first | exact Nat.le_of_ble_eq_true rfl | omega | (dsimp only; omega))⟩ rfl dX0_betOn_57 (fun x18 μ19 H locs hf h => ?_)
    refine r_jn hf (fun j22 ej22 hf => ?_)
    have hj22 : ∀ (x20 : Int64) (μ21 : gM) (H : Heap) (locs : List Loc) (ls : Array Slot), j22 x20 μ21 = some r → gWd Γ A μ0.1 ad μ21 s.heap H locs → lv_has ls 10 [] → W p l e ({ frames := 5 + (dd + 1), cells := 0, slots := 0, locals := 111 + (dd + 1) * 29 } : Room) s m args below meth c H locs 0 0 (MQ below (gQ0 Γ ad μ0.1 r A) args s 0 0 A) (F0 m 69 ls [.long x20, .long x17, .ref (ad b0)]) := by
      intro x20 μ21 H locs ls hf h hl
      rw [ej22] at hf
      refine lv_ladd X.hx X.hb dX0_betOn_69 ?_
      refine r_put X h (ci := 0) (k := 34) (C := RX0) (T := TX0) (N := 36) (ty0 := tyX0) (ty := .long) (v := .long (x17 + x20)) rfl in_X0 tyX0_ok nmX0 (by decide) q176 rfl rfl (by decide +kernel) rfl rfl (fun j hj => by cases hj) dX0_betOn_70 hf (fun μ23 H locs hf h => ?_)
      exact r_rv X h hr hlk ((by first | exact Nat.le_of_ble_eq_true rfl | omega | (dsimp only; omega))) ((by first | exact Nat.le_of_ble_eq_true rfl | omega | (dsimp only; omega))) dX0_betOn_73 hf
    clear ej22
    refine lv_if_eq (tgt := 68) X.hx X.hb dX0_betOn_60 (by decide) (fun hc => ?_) (fun hc => ?_)
    · replace hf := gif_t hf hc
      clear hc
      refine lv_lconst (v := 0) X.hx X.hb dX0_betOn_68 (by decide) ?_
      exact hj22 _ _ _ _ _ hf h (lv_sub hl [] rfl)
    · replace hf := gif_f hf hc
      clear hc
      refine lv_lload X.hx X.hb dX0_betOn_63 (lv_at hl 3 rfl) ?_
      refine lv_goto (tgt := 69) X.hx X.hb dX0_betOn_65 (by decide) ?_
      exact hj22 _ _ _ _ _ hf h (lv_sub hl [] rfl)
  clear ej7
  refine lv_icmp_eq (tgt := 22) X.hx X.hb dX0_betOn_14 (by decide) (fun hc => ?_) (fun hc => ?_)
  · replace hf := gif_t hf hc
    clear hc
    exact hj7 _ _ _ _ hf h (lv_sub hl [1, 2, 3, 4, 5, 0] rfl)
  · replace hf := gif_f hf hc
    clear hc
    refine lv_iload X.hx X.hb dX0_betOn_17 (lv_at hl 0 rfl) ?_
    refine lv_if_ne (tgt := 74) X.hx X.hb dX0_betOn_19 (by decide) (fun hc => ?_) (fun hc => ?_)
    · replace hf := gif_f hf hc
      clear hc
      refine lv_iconst (v := 0) X.hx X.hb dX0_betOn_74 (by decide) ?_
      refine lv_istore (lv' := [(7, .int 0), (6, .int x4), (0, .ref (ad b0)), (1, .int a1), (2, .int a2), (3, .int a3), (4, .long a4)]) X.hx X.hb dX0_betOn_75 hl (by decide) rfl (fun ls hl => ?_)
      refine wX0_betOn_L77 l _ rec b0 a1 a2 a3 a4 x4 X hr hlk hrec 10000 _ _ _ _ _ hf h (lv_sub hl [2, 3, 4, 5, 6, 1, 0] rfl)
    · replace hf := gif_t hf hc
      clear hc
      exact hj7 _ _ _ _ hf h (lv_sub hl [1, 2, 3, 4, 5, 0] rfl)
def fX0_betOn : Nat → gM → Nat → Int32 → Int32 → Int32 → Int64 → gR
  | 0, _, _, _, _, _, _ => none
  | d + 1, μ0, b0, a1, a2, a3, a4 => fX0_betOn_B (fX0_betOn d) μ0 b0 a1 a2 a3 a4
theorem wX0_betOn (l : Launch) (Γ : gG) : ∀ (dd : Nat) (ad : Nat → Nat) (μ0 : gM) (b0 : Nat) (a1 : Int32) (a2 : Int32) (a3 : Int32) (a4 : Int64) (r : Option Value × gM), fX0_betOn dd μ0 b0 a1 a2 a3 a4 = some r → gMt0 l Γ yX0_betOn (ws_ yX0_betOn cX0_betOn 10 none) ({ frames := 5 + dd, cells := 0, slots := 0, locals := 111 + dd * 29 } : Room) 0 0 ad μ0 [.ref (ad b0), .int a1, .int a2, .int a3, .long a4] r := by
  intro dd
  induction dd with
  | zero =>
    intro ad μ0 b0 a1 a2 a3 a4 r hf
    have hf : (none : gR) = some r := hf
    cases hf
  | succ dd ih =>
    intro ad μ0 b0 a1 a2 a3 a4 r hf
    exact wX0_betOn_B l Γ dd (fX0_betOn dd) ih ad μ0 b0 a1 a2 a3 a4 r hf
/-! X0_divisor -/
def fX0_divisor_L6 : Nat → Int64 → Int64 → gM → gR
  | 0, _, _, _ => none
  | n4 + 1, x1, x2, μ3 => if (lg_cmp x2 0) = 0 then (some (some (.long x1), μ3)) else (gne x2 0 <| gnm ((x1 - x1 / x2 * x2)) fun x5 => fX0_divisor_L6 n4 x2 x5 μ3)
set_option maxHeartbeats 4000000 in
theorem wX0_divisor_L6 {p : Program} {e : Env} {s : State} {m : MethodId} {args : Array Value} {below : List Frame} {meth : Method} {c : Code} {Γ : gG} {A : Nat → Prop} {nz : Nat} {ad : Nat → Nat} {r : Option Value × gM} (l : Launch) (X : gX p m c cX0_divisor 10 s args "SandPiano" Γ A) (hr : meth.sig.returnType = (some .long)) (hlk : meth.locks = false) : ∀ (n4 : Nat) (x1 : Int64) (x2 : Int64) (μ3 : gM) (H : Heap) (locs : List Loc) (ls : Array Slot), fX0_divisor_L6 n4 x1 x2 μ3 = some r → gWd Γ A nz ad μ3 s.heap H locs → lv_has ls 10 [(4, .long x1), (6, .long x2)] → W p l e ({ frames := 0, cells := 0, slots := 0, locals := 0 } : Room) s m args below meth c H locs 0 0 (MQ below (gQ0 Γ ad nz r A) args s 0 0 A) (F0 m 6 ls []) := by
  intro n4
  induction n4 with
  | zero =>
    intro x1 x2 μ3 H locs ls hf h hl
    have hf : (none : gR) = some r := hf
    cases hf
  | succ n4 ih =>
    intro x1 x2 μ3 H locs ls hf h hl
    rw [fX0_divisor_L6] at hf
    refine lv_lload X.hx X.hb dX0_divisor_6 (lv_at hl 1 rfl) ?_
    refine lv_lconst (v := 0) X.hx X.hb dX0_divisor_8 (by decide) ?_
    refine W.lcmp X.hx X.hb dX0_divisor_9 ?_
    refine lv_if_eq (tgt := 31) X.hx X.hb dX0_divisor_10 (by decide) (fun hc => ?_) (fun hc => ?_)
    · replace hf := gif_t hf hc
      clear hc
      refine lv_lload X.hx X.hb dX0_divisor_31 (lv_at hl 0 rfl) ?_
      exact r_rl X h hr hlk (Nat.le_of_ble_eq_true rfl) (Nat.le_of_ble_eq_true rfl) dX0_divisor_33 hf
    · replace hf := gif_f hf hc
      clear hc
      refine lv_lload X.hx X.hb dX0_divisor_13 (lv_at hl 0 rfl) ?_
      refine lv_lload X.hx X.hb dX0_divisor_15 (lv_at hl 1 rfl) ?_
      obtain ⟨hne, hf⟩ := gne_some hf
      refine lv_lrem X.hx X.hb dX0_divisor_17 hne ?_
      refine r_nmJ hf (fun x5 hf => ?_)
      refine lv_lstore (lv' := [(8, .long x5), (4, .long x1), (6, .long x2)]) X.hx X.hb dX0_divisor_18 hl (by decide) rfl (fun ls hl => ?_)
      refine lv_lload X.hx X.hb dX0_divisor_20 (lv_at hl 2 rfl) ?_
      refine lv_lstore (lv' := [(4, .long x2), (8, .long x5), (6, .long x2)]) X.hx X.hb dX0_divisor_22 hl (by decide) rfl (fun ls hl => ?_)
      refine lv_lload X.hx X.hb dX0_divisor_24 (lv_at hl 1 rfl) ?_
      refine lv_lstore (lv' := [(6, .long x5), (4, .long x2), (8, .long x5)]) X.hx X.hb dX0_divisor_26 hl (by decide) rfl (fun ls hl => ?_)
      refine lv_goto (tgt := 6) X.hx X.hb dX0_divisor_28 (by decide) ?_
      exact ih _ _ _ _ _ _ hf h (lv_sub hl [1, 0] rfl)
def fX0_divisor (μ0 : gM) (a1 : Int64) (a2 : Int64) : gR := fX0_divisor_L6 10000 a1 a2 μ0
set_option maxHeartbeats 4000000 in
theorem wX0_divisor (l : Launch) (Γ : gG) (ad : Nat → Nat) (μ0 : gM) (a1 : Int64) (a2 : Int64) (r : Option Value × gM) (hf : fX0_divisor μ0 a1 a2 = some r) : gMt0 l Γ yX0_divisor (ws_ yX0_divisor cX0_divisor 10 (some .long)) ({ frames := 0, cells := 0, slots := 0, locals := 0 } : Room) 0 0 ad μ0 [.long a1, .long a2] r := by
  intro sz
  refine g_start (maxL := 10) (ret := (some .long)) (by decide) rfl g_all (Nat.le_of_ble_eq_true rfl) ?_
  intro p e s m below meth c ls hr hlk hnm X h hl
  generalize gA ad μ0 sz = A at X h ⊢
  generalize ([.long a1, .long a2] : List Value).toArray = args at X ⊢
  have X : gX p m c cX0_divisor 10 s args "SandPiano" Γ A := X
  have hl : lv_has ls 10 [(0, .long a1), (2, .long a2)] := hl
  show W p l e ({ frames := 0, cells := 0, slots := 0, locals := 0 } : Room) s m args below meth c s.heap [] 0 0 (MQ below (gQ0 Γ ad μ0.1 r A) args s 0 0 A) (F0 m 0 ls [])
  unfold fX0_divisor at hf
  refine lv_lload_n X.hx X.hb dX0_divisor_0 rfl (lv_at hl 0 rfl) ?_
  refine lv_lstore (lv' := [(4, .long a1), (0, .long a1), (2, .long a2)]) X.hx X.hb dX0_divisor_1 hl (by decide) rfl (fun ls hl => ?_)
  refine lv_lload_n X.hx X.hb dX0_divisor_3 rfl (lv_at hl 2 rfl) ?_
  refine lv_lstore (lv' := [(6, .long a2), (4, .long a1), (0, .long a1), (2, .long a2)]) X.hx X.hb dX0_divisor_4 hl (by decide) rfl (fun ls hl => ?_)
  refine wX0_divisor_L6 l X hr hlk 10000 _ _ _ _ _ _ hf h (lv_sub hl [1, 0] rfl)
