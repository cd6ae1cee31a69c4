set_option maxRecDepth 100000
/-! X0_mostOn -/
def fX0_mostOn_L29 (rec : gM → Nat → Int32 → Int32 → gR) (b0 : Nat) (a1 : Int32) (a2 : Int32) : Nat → Int32 → gM → gR
  | 0, _, _ => none
  | n6 + 1, x4, μ5 => gI (gfld μ5 b0 0 7) fun x7 => if x7 ≤ x4 then (some (none, μ5)) else (cI (fX0_has μ5 a2 x4) fun x8 μ9 => gjn (fun  (μ10 : gM) => gnm (x4 + 1) fun x12 => fX0_mostOn_L29 rec b0 a1 a2 n6 x12 μ10) fun j11 => if x8 = 0 then (j11 μ9) else (gP (gfld μ9 b0 0 9) fun i13 => gaQ μ9 5 i13 x4 fun o14 => gnn o14 fun i15 => gP (gfld μ9 b0 0 25) fun i16 => gaQ μ9 7 i16 a1 fun o17 => gnn o17 fun i18 => cI (vX3_plays μ9 i15 i18) fun x19 μ20 => if x19 = 0 then (j11 μ20) else (gis μ20 b0 0 <| cV (fX0_goDeep μ20 b0 a1 x4) fun μ21 => gis μ21 b0 0 <| cV (rec μ21 b0 (a1 + 1) (a2 &&& ((1 <<< (x4 &&& 31)) ^^^ (-1)))) fun μ22 => j11 μ22)))
set_option maxHeartbeats 4000000 in
theorem wX0_mostOn_L29 {p : Program} {e : Env} {s : State} {m : MethodId} {args : Array Value} {below : List Frame} {meth : Method} {c : Code} {Γ : gG} {A : Nat → Prop} {nz : Nat} {ad : Nat → Nat} {r : Option Value × gM} (l : Launch) (dd : Nat) (rec : gM → Nat → Int32 → Int32 → gR) (b0 : Nat) (a1 : Int32) (a2 : Int32) (X : gX p m c cX0_mostOn 4 s args "SandPiano" Γ A) (hr : meth.sig.returnType = none) (hlk : meth.locks = false) (hrec : ∀ (ad : Nat → Nat) (μ : gM) (b0 : Nat) (a1 : Int32) (a2 : Int32) (r : Option Value × gM), rec μ b0 a1 a2 = some r → gMt0 l Γ yX0_mostOn (ws_ yX0_mostOn cX0_mostOn 4 none) ({ frames := 5 + dd, cells := 0, slots := 0, locals := 111 + dd * 23 } : Room) 0 0 ad μ [.ref (ad b0), .int a1, .int a2] r) : ∀ (n6 : Nat) (x4 : Int32) (μ5 : gM) (H : Heap) (locs : List Loc) (ls : Array Slot), fX0_mostOn_L29 rec b0 a1 a2 n6 x4 μ5 = some r → gWd Γ A nz ad μ5 s.heap H locs → lv_has ls 4 [(0, .ref (ad b0)), (1, .int a1), (2, .int a2), (3, .int x4)] → W p l e ({ frames := 5 + (dd + 1), cells := 0, slots := 0, locals := 111 + (dd + 1) * 23 } : Room) s m args below meth c H locs 0 0 (MQ below (gQ0 Γ ad nz r A) args s 0 0 A) (F0 m 29 ls []) := by
  intro n6
  induction n6 with
  | zero =>
    intro x4 μ5 H locs ls hf h hl
    have hf : (none : gR) = some r := hf
    cases hf
  | succ n6 ih =>
    intro x4 μ5 H locs ls hf h hl
    rw [fX0_mostOn_L29] at hf
    refine lv_iload_n X.hx X.hb dX0_mostOn_29 rfl (lv_at hl 3 rfl) ?_
    refine lv_aload_n X.hx X.hb dX0_mostOn_30 rfl (lv_at hl 0 rfl) ?_
    refine r_getI X h (ci := 0) (k := 7) (C := RX0) (T := TX0) (N := 36) rfl in_X0 (by decide) q149 rfl dX0_mostOn_31 hf (fun x7 hf => ?_)
    refine lv_icmp_ge (tgt := 89) X.hx X.hb dX0_mostOn_34 (by decide) (fun hc => ?_) (fun hc => ?_)
    · replace hf := gif_t hf hc
      clear hc
      exact r_rv X h hr hlk ((by first | exact Nat.le_of_ble_eq_true rfl | omega | (dsimp only; omega))) ((by first | exact Nat.le_of_ble_eq_true rfl | omega | (dsimp only; omega))) dX0_mostOn_89 hf
    · replace hf := gif_f hf hc
      clear hc
      refine lv_iload_n X.hx X.hb dX0_mostOn_37 rfl (lv_at hl 2 rfl) ?_
      refine lv_iload_n X.hx X.hb dX0_mostOn_38 rfl (lv_at hl 3 rfl) ?_
      refine r_cSI (As := [.int a2, .int x4]) (rest := []) X h hf (fun res hres => wX0_has l Γ ad _ a2 x4 res hres) (va_cwS 2 X.hts (lw_S q885 q886 q82 q887) rfl rfl rfl (by decide +kernel) ⟨(by first | exact Nat.le_of_ble_eq_true rfl | omega | (dsimp only; omega)), (by first | exact Nat.le_of_ble_eq_true rfl | omega | (dsimp only; omega))⟩) rfl ⟨hl.1, Nat.le_of_ble_eq_true rfl, (by first | exact Nat.le_of_ble_eq_true rfl | omega | (dsimp only; omega)), (by first | exact Nat.le_of_ble_eq_true rfl | omega | (dsimp only; omega))⟩ rfl dX0_mostOn_39 (fun x8 μ9 H locs hf h => ?_)
      refine r_jn hf (fun j11 ej11 hf => ?_)
      have hj11 : ∀  (μ10 : gM) (H : Heap) (locs : List Loc) (ls : Array Slot), j11  μ10 = some r → gWd Γ A nz ad μ10 s.heap H locs → lv_has ls 4 [(0, .ref (ad b0)), (1, .int a1), (2, .int a2), (3, .int x4)] → W p l e ({ frames := 5 + (dd + 1), cells := 0, slots := 0, locals := 111 + (dd + 1) * 23 } : Room) s m args below meth c H locs 0 0 (MQ below (gQ0 Γ ad nz r A) args s 0 0 A) (F0 m 83 ls []) := by
        intro μ10 H locs ls hf h hl
        rw [ej11] at hf
        refine r_nmk hf (fun x12 ex hf => ?_)
        refine lv_iinc (v := x12) (lv' := [(3, .int x12), (0, .ref (ad b0)), (1, .int a1), (2, .int a2)]) X.hx X.hb dX0_mostOn_83 hl (k := 3) rfl (by rw [ex]; rfl) (by decide) rfl (fun ls hl => ?_)
        clear ex
        refine lv_goto (tgt := 29) X.hx X.hb dX0_mostOn_86 (by decide) ?_
        exact ih _ _ _ _ _ hf h (lv_sub hl [1, 2, 3, 0] rfl)
      clear ej11
      refine lv_if_eq (tgt := 83) X.hx X.hb dX0_mostOn_42 (by decide) (fun hc => ?_) (fun hc => ?_)
      · replace hf := gif_t hf hc
        clear hc
        exact hj11 _ _ _ _ hf h (lv_sub hl [0, 1, 2, 3] rfl)
      · replace hf := gif_f hf hc
        clear hc
        refine lv_aload_n X.hx X.hb dX0_mostOn_45 rfl (lv_at hl 0 rfl) ?_
        refine r_getP X h (ci := 0) (k := 9) (C := RX0) (T := TX0) (N := 36) rfl in_X0 (by decide) q151 rfl dX0_mostOn_46 hf (fun i13 hf => ?_)
        refine lv_iload_n X.hx X.hb dX0_mostOn_49 rfl (lv_at hl 3 rfl) ?_
        refine r_aald X h (t := 5) rfl rfl dX0_mostOn_50 hf (fun o14 hf => ?_)
        refine r_nn hf (fun i15 hf => ?_)
        refine lv_aload_n X.hx X.hb dX0_mostOn_51 rfl (lv_at hl 0 rfl) ?_
        refine r_getP X h (ci := 0) (k := 25) (C := RX0) (T := TX0) (N := 36) rfl in_X0 (by decide) q167 rfl dX0_mostOn_52 hf (fun i16 hf => ?_)
        refine lv_iload_n X.hx X.hb dX0_mostOn_55 rfl (lv_at hl 1 rfl) ?_
        refine r_aald X h (t := 7) rfl rfl dX0_mostOn_56 hf (fun o17 hf => ?_)
        refine r_nn hf (fun i18 hf => ?_)
        refine wvX3_plays X h q597 ((by first | exact Nat.le_of_ble_eq_true rfl | omega | (dsimp only; omega))) ((by first | exact Nat.le_of_ble_eq_true rfl | omega | (dsimp only; omega))) (rest := []) ⟨hl.1, Nat.le_of_ble_eq_true rfl, (by first | exact Nat.le_of_ble_eq_true rfl | omega | (dsimp only; omega)), (by first | exact Nat.le_of_ble_eq_true rfl | omega | (dsimp only; omega))⟩ rfl dX0_mostOn_57 hf (fun x19 μ20 H locs hf h => ?_)
        refine lv_if_eq (tgt := 83) X.hx X.hb dX0_mostOn_60 (by decide) (fun hc => ?_) (fun hc => ?_)
        · replace hf := gif_t hf hc
          clear hc
          exact hj11 _ _ _ _ hf h (lv_sub hl [0, 1, 2, 3] rfl)
        · replace hf := gif_f hf hc
          clear hc
          refine lv_aload_n X.hx X.hb dX0_mostOn_63 rfl (lv_at hl 0 rfl) ?_
          refine lv_iload_n X.hx X.hb dX0_mostOn_64 rfl (lv_at hl 1 rfl) ?_
          refine lv_iload_n X.hx X.hb dX0_mostOn_65 rfl (lv_at hl 3 rfl) ?_
          refine r_cVV (As := [.int a1, .int x4]) (rest := []) (C := RX0) (T := TX0) (N := 36) X h hf (fun res hres => wX0_goDeep l Γ ad _ b0 a1 x4 res hres) rfl (cwV 2 X.hts (lw_V q888 q890 qs22 q82 q891) rfl rfl rfl (by decide +kernel) ⟨(by first | exact Nat.le_of_ble_eq_true rfl | omega | (dsimp only; omega)), (by first | exact Nat.le_of_ble_eq_true rfl | omega | (dsimp only; omega))⟩) rfl ⟨hl.1, Nat.le_of_ble_eq_true rfl, (by first | exact Nat.le_of_ble_eq_true rfl | omega | (dsimp only; omega)), (by first | exact Nat.le_of_ble_eq_true rfl | omega | (dsimp only; omega))⟩ rfl dX0_mostOn_66 (fun μ21 H locs hf h => ?_)
          refine lv_aload_n X.hx X.hb dX0_mostOn_69 rfl (lv_at hl 0 rfl) ?_
          refine lv_iload_n X.hx X.hb dX0_mostOn_70 rfl (lv_at hl 1 rfl) ?_
          refine lv_iconst (v := 1) X.hx X.hb dX0_mostOn_71 (by decide) ?_
          refine lv_iadd X.hx X.hb dX0_mostOn_72 ?_
          refine lv_iload_n X.hx X.hb dX0_mostOn_73 rfl (lv_at hl 2 rfl) ?_
          refine lv_iconst (v := 1) X.hx X.hb dX0_mostOn_74 (by decide) ?_
          refine lv_iload_n X.hx X.hb dX0_mostOn_75 rfl (lv_at hl 3 rfl) ?_
          refine lv_ishl X.hx X.hb dX0_mostOn_76 ?_
          refine lv_iconst (v := (-1)) X.hx X.hb dX0_mostOn_77 (by decide) ?_
          refine lv_ixor X.hx X.hb dX0_mostOn_78 ?_
          refine lv_iand X.hx X.hb dX0_mostOn_79 ?_
          refine r_cVV (As := [.int (a1 + 1), .int (a2 &&& ((1 <<< (x4 &&& 31)) ^^^ (-1)))]) (rest := []) (C := RX0) (T := TX0) (N := 36) X h hf (fun res hres => hrec ad _ b0 (a1 + 1) (a2 &&& ((1 <<< (x4 &&& 31)) ^^^ (-1))) res hres) rfl (cwV 2 X.hts (lw_V q881 q883 qs21 q82 q884) rfl rfl rfl (by decide +kernel) ⟨(by first | exact Nat.le_of_ble_eq_true rfl | omega | (dsimp only; omega)), (by first | exact Nat.le_of_ble_eq_true rfl | omega | (dsimp only; omega))⟩) rfl ⟨hl.1, Nat.le_of_ble_eq_true rfl, (by first | exact Nat.le_of_ble_eq_true rfl | omega | (dsimp only; omega)), (by first | exact Nat.le_of_ble_eq_true rfl | omega | (dsimp only; omega))⟩ rfl dX0_mostOn_80 (fun μ22 H locs hf h => ?_)
          exact hj11 _ _ _ _ hf h (lv_sub hl [0, 1, 2, 3] rfl)
def fX0_mostOn_B (rec : gM → Nat → Int32 → Int32 → gR) (μ0 : gM) (b0 : Nat) (a1 : Int32) (a2 : Int32) : gR := gI (gfld μ0 b0 0 28) fun x1 => gjn (fun  (μ2 : gM) => fX0_mostOn_L29 rec b0 a1 a2 10000 0 μ2) fun j3 => if a1 ≤ x1 then (j3 μ0) else (gpf μ0 b0 0 28 (.int a1) fun μ23 => gP (gfld μ23 b0 0 26) fun i24 => gP (gfld μ23 b0 0 27) fun i25 => gcp μ23 i24 0 i25 0 a1 fun μ26 => j3 μ26)
set_option maxHeartbeats 4000000 in
theorem wX0_mostOn_B (l : Launch) (Γ : gG) (dd : Nat) (rec : gM → Nat → Int32 → Int32 → gR) (hrec : ∀ (ad : Nat → Nat) (μ : gM) (b0 : Nat) (a1 : Int32) (a2 : Int32) (r : Option Value × gM), rec μ b0 a1 a2 = some r → gMt0 l Γ yX0_mostOn (ws_ yX0_mostOn cX0_mostOn 4 none) ({ frames := 5 + dd, cells := 0, slots := 0, locals := 111 + dd * 23 } : Room) 0 0 ad μ [.ref (ad b0), .int a1, .int a2] r) (ad : Nat → Nat) (μ0 : gM) (b0 : Nat) (a1 : Int32) (a2 : Int32) (r : Option Value × gM) (hf : fX0_mostOn_B rec μ0 b0 a1 a2 = some r) : gMt0 l Γ yX0_mostOn (ws_ yX0_mostOn cX0_mostOn 4 none) ({ frames := 5 + (dd + 1), cells := 0, slots := 0, locals := 111 + (dd + 1) * 23 } : Room) 0 0 ad μ0 [.ref (ad b0), .int a1, .int a2] r := by
  intro sz
  refine g_start (maxL := 4) (ret := none) (by decide) rfl g_all (Nat.le_of_ble_eq_true rfl) ?_
  intro p e s m below meth c ls hr hlk hnm X h hl
  generalize gA ad μ0 sz = A at X h ⊢
  generalize ([.ref (ad b0), .int a1, .int a2] : List Value).toArray = args at X ⊢
  have X : gX p m c cX0_mostOn 4 s args "SandPiano" Γ A := X
  have hl : lv_has ls 4 [(0, .ref (ad b0)), (1, .int a1), (2, .int a2)] := hl
  show W p l e ({ frames := 5 + (dd + 1), cells := 0, slots := 0, locals := 111 + (dd + 1) * 23 } : Room) s m args below meth c s.heap [] 0 0 (MQ below (gQ0 Γ ad μ0.1 r A) args s 0 0 A) (F0 m 0 ls [])
  unfold fX0_mostOn_B at hf
  refine lv_iload_n X.hx X.hb dX0_mostOn_0 rfl (lv_at hl 1 rfl) ?_
  refine lv_aload_n X.hx X.hb dX0_mostOn_1 rfl (lv_at hl 0 rfl) ?_
  refine r_getI X h (ci := 0) (k := 28) (C := RX0) (T := TX0) (N := 36) rfl in_X0 (by decide) q170 rfl dX0_mostOn_2 hf (fun x1 hf => ?_)
  refine r_jn hf (fun j3 ej3 hf => ?_)
  have hj3 : ∀  (μ2 : gM) (H : Heap) (locs : List Loc) (ls : Array Slot), j3  μ2 = some r → gWd Γ A μ0.1 ad μ2 s.heap H locs → lv_has ls 4 [(0, .ref (ad b0)), (1, .int a1), (2, .int a2)] → W p l e ({ frames := 5 + (dd + 1), cells := 0, slots := 0, locals := 111 + (dd + 1) * 23 } : Room) s m args below meth c H locs 0 0 (MQ below (gQ0 Γ ad μ0.1 r A) args s 0 0 A) (F0 m 27 ls []) := by
    intro μ2 H locs ls hf h hl
    rw [ej3] at hf
    refine lv_iconst (v := 0) X.hx X.hb dX0_mostOn_27 (by decide) ?_
    refine lv_istore_n (lv' := [(3, .int 0), (0, .ref (ad b0)), (1, .int a1), (2, .int a2)]) X.hx X.hb dX0_mostOn_28 rfl hl (by decide) rfl (fun ls hl => ?_)
    refine wX0_mostOn_L29 l _ rec b0 a1 a2 X hr hlk hrec 10000 _ _ _ _ _ hf h (lv_sub hl [1, 2, 3, 0] rfl)
  clear ej3
  refine lv_icmp_le (tgt := 27) X.hx X.hb dX0_mostOn_5 (by decide) (fun hc => ?_) (fun hc => ?_)
  · replace hf := gif_t hf hc
    clear hc
    exact hj3 _ _ _ _ hf h (lv_sub hl [0, 1, 2] rfl)
  · replace hf := gif_f hf hc
    clear hc
    refine lv_aload_n X.hx X.hb dX0_mostOn_8 rfl (lv_at hl 0 rfl) ?_
    refine lv_iload_n X.hx X.hb dX0_mostOn_9 rfl (lv_at hl 1 rfl) ?_
    refine r_put X h (ci := 0) (k := 28) (C := RX0) (T := TX0) (N := 36) (ty0 := tyX0) (ty := .int) (v := .int a1) rfl in_X0 tyX0_ok nmX0 (by decide) q170 rfl rfl (by decide +kernel) rfl rfl (fun j hj => by cases hj) dX0_mostOn_10 hf (fun μ23 H locs hf h => ?_)
    refine lv_aload_n X.hx X.hb dX0_mostOn_13 rfl (lv_at hl 0 rfl) ?_
    refine r_getP X h (ci := 0) (k := 26) (C := RX0) (T := TX0) (N := 36) rfl in_X0 (by decide) q168 rfl dX0_mostOn_14 hf (fun i24 hf => ?_)
    refine lv_iconst (v := 0) X.hx X.hb dX0_mostOn_17 (by decide) ?_
    refine lv_aload_n X.hx X.hb dX0_mostOn_18 rfl (lv_at hl 0 rfl) ?_
    refine r_getP X h (ci := 0) (k := 27) (C := RX0) (T := TX0) (N := 36) rfl in_X0 (by decide) q169 rfl dX0_mostOn_19 hf (fun i25 hf => ?_)
    refine lv_iconst (v := 0) X.hx X.hb dX0_mostOn_22 (by decide) ?_
    refine lv_iload_n X.hx X.hb dX0_mostOn_23 rfl (lv_at hl 1 rfl) ?_
    refine r_copy X h hl.1 q417 ((by first | exact Nat.le_of_ble_eq_true rfl | omega | (dsimp only; omega))) (Nat.le_trans (m := 26) (Nat.le_of_ble_eq_true rfl) ((by first | exact Nat.le_of_ble_eq_true rfl | omega | (dsimp only; omega)))) dX0_mostOn_24 hf (fun μ26 H locs hf h => ?_)
    exact hj3 _ _ _ _ hf h (lv_sub hl [0, 1, 2] rfl)
def fX0_mostOn : Nat → gM → Nat → Int32 → Int32 → gR
  | 0, _, _, _, _ => none
  | d + 1, μ0, b0, a1, a2 => fX0_mostOn_B (fX0_mostOn d) μ0 b0 a1 a2
theorem wX0_mostOn (l : Launch) (Γ : gG) : ∀ (dd : Nat) (ad : Nat → Nat) (μ0 : gM) (b0 : Nat) (a1 : Int32) (a2 : Int32) (r : Option Value × gM), fX0_mostOn dd μ0 b0 a1 a2 = some r → gMt0 l Γ yX0_mostOn (ws_ yX0_mostOn cX0_mostOn 4 none) ({ frames := 5 + dd, cells := 0, slots := 0, locals := 111 + dd * 23 } : Room) 0 0 ad μ0 [.ref (ad b0), .int a1, .int a2] r := by
  intro dd
  induction dd with
  | zero =>
    intro ad μ0 b0 a1 a2 r hf
    have hf : (none : gR) = some r := hf
    cases hf
  | succ dd ih =>
    intro ad μ0 b0 a1 a2 r hf
    exact wX0_mostOn_B l Γ dd (fX0_mostOn dd) ih ad μ0 b0 a1 a2 r hf
/-! X0_most -/
def fX0_most (μ0 : gM) (b0 : Nat) (a1 : Int32) : gR := cI (fX0_isRow μ0 a1) fun x1 μ2 => if x1 = 0 then (some (some (.int (-1)), μ2)) else (gI (gfld μ2 b0 0 7) fun x3 => if x3 = 0 then (some (some (.int (-4)), μ2)) else (gpf μ2 b0 0 28 (.int 0) fun μ4 => gP (gfld μ4 b0 0 25) fun i5 => gaQ μ4 7 i5 0 fun o6 => gnn o6 fun i7 => gP (gfld μ4 b0 0 10) fun i8 => gis μ4 i7 1 <| cV (fX1_take μ4 i7 i8) fun μ9 => gI (gfld μ9 b0 0 7) fun x10 => gis μ9 b0 0 <| cV (fX0_mostOn 8 μ9 b0 0 ((1 <<< (x10 &&& 31)) - 1)) fun μ11 => gP (gfld μ11 b0 0 27) fun i12 => gI (gfld μ11 b0 0 28) fun x13 => glv μ11 b0 <| gis μ11 b0 0 <| cI (fX0_layRow μ11 b0 a1 i12 x13) fun x14 μ15 => some (some (.int x14), μ15)))
set_option maxHeartbeats 4000000 in
theorem wX0_most (l : Launch) (Γ : gG) (ad : Nat → Nat) (μ0 : gM) (b0 : Nat) (a1 : Int32) (r : Option Value × gM) (hf : fX0_most μ0 b0 a1 = some r) : gMt1 l Γ yX0_most (ws_ yX0_most cX0_most 2 (some .int)) ({ frames := 14, cells := 1, slots := 12, locals := 318 } : Room) 1 12 ad μ0 [.ref (ad b0), .int a1] r := by
  intro sz
  refine g_start (maxL := 2) (ret := (some .int)) (by decide) rfl g_all (Nat.le_of_ble_eq_true rfl) ?_
  intro p e s m below meth c ls hr hlk hnm X h hl
  generalize gA ad μ0 sz = A at X h ⊢
  generalize ([.ref (ad b0), .int a1] : List Value).toArray = args at X ⊢
  have X : gX p m c cX0_most 2 s args "SandPiano" Γ A := X
  have hl : lv_has ls 2 [(0, .ref (ad b0)), (1, .int a1)] := hl
  show W p l e ({ frames := 14, cells := 1, slots := 12, locals := 318 } : Room) s m args below meth c s.heap [] 0 0 (MQ below (gQ1 Γ ad μ0.1 r A) args s 1 12 A) (F0 m 0 ls [])
  unfold fX0_most at hf
  have hag : ∀ i, i < μ0.1 → ad i = ad i := fun _ _ => rfl
  refine lv_iload_n X.hx X.hb dX0_most_0 rfl (lv_at hl 1 rfl) ?_
  refine r_cSI (As := [.int a1]) (rest := []) X h hf (fun res hres => wX0_isRow l Γ ad _ a1 res hres) (va_cwS 1 X.hts (lw_S q341 q342 q82 q343) rfl rfl rfl (by decide +kernel) ⟨Nat.le_of_ble_eq_true rfl, Nat.le_of_ble_eq_true rfl⟩) rfl ⟨hl.1, Nat.le_of_ble_eq_true rfl, Nat.le_of_ble_eq_true rfl, Nat.le_of_ble_eq_true rfl⟩ rfl dX0_most_1 (fun x1 μ2 H locs hf h => ?_)
  refine lv_if_ne (tgt := 9) X.hx X.hb dX0_most_4 (by decide) (fun hc => ?_) (fun hc => ?_)
  · replace hf := gif_f hf hc
    clear hc
    refine lv_aload_n X.hx X.hb dX0_most_9 rfl (lv_at hl 0 rfl) ?_
    refine r_getI X h (ci := 0) (k := 7) (C := RX0) (T := TX0) (N := 36) rfl in_X0 (by decide) q149 rfl dX0_most_10 hf (fun x3 hf => ?_)
    refine lv_if_ne (tgt := 19) X.hx X.hb dX0_most_13 (by decide) (fun hc => ?_) (fun hc => ?_)
    · replace hf := gif_f hf hc
      clear hc
      refine lv_aload_n X.hx X.hb dX0_most_19 rfl (lv_at hl 0 rfl) ?_
      refine lv_iconst (v := 0) X.hx X.hb dX0_most_20 (by decide) ?_
      refine r_put X h (ci := 0) (k := 28) (C := RX0) (T := TX0) (N := 36) (ty0 := tyX0) (ty := .int) (v := .int 0) rfl in_X0 tyX0_ok nmX0 (by decide) q170 rfl rfl (by decide +kernel) rfl rfl (fun j hj => by cases hj) dX0_most_21 hf (fun μ4 H locs hf h => ?_)
      refine lv_aload_n X.hx X.hb dX0_most_24 rfl (lv_at hl 0 rfl) ?_
      refine r_getP X h (ci := 0) (k := 25) (C := RX0) (T := TX0) (N := 36) rfl in_X0 (by decide) q167 rfl dX0_most_25 hf (fun i5 hf => ?_)
      refine lv_iconst (v := 0) X.hx X.hb dX0_most_28 (by decide) ?_
      refine r_aald X h (t := 7) rfl rfl dX0_most_29 hf (fun o6 hf => ?_)
      refine r_nn hf (fun i7 hf => ?_)
      refine lv_aload_n X.hx X.hb dX0_most_30 rfl (lv_at hl 0 rfl) ?_
      refine r_getP X h (ci := 0) (k := 10) (C := RX0) (T := TX0) (N := 36) rfl in_X0 (by decide) q152 rfl dX0_most_31 hf (fun i8 hf => ?_)
      refine r_cVV (As := [.ref (ad i8)]) (rest := []) (C := RX1) (T := TX1) (N := 1) X h hf (fun res hres => wX1_take l Γ ad _ i7 i8 res hres) rfl (cwV 1 X.hts (lw_V q832 q833 q834 q83 q835) rfl rfl rfl (by decide +kernel) ⟨Nat.le_of_ble_eq_true rfl, Nat.le_of_ble_eq_true rfl⟩) rfl ⟨hl.1, Nat.le_of_ble_eq_true rfl, Nat.le_of_ble_eq_true rfl, Nat.le_of_ble_eq_true rfl⟩ rfl dX0_most_34 (fun μ9 H locs hf h => ?_)
      refine lv_aload_n X.hx X.hb dX0_most_37 rfl (lv_at hl 0 rfl) ?_
      refine lv_iconst (v := 0) X.hx X.hb dX0_most_38 (by decide) ?_
      refine lv_iconst (v := 1) X.hx X.hb dX0_most_39 (by decide) ?_
      refine lv_aload_n X.hx X.hb dX0_most_40 rfl (lv_at hl 0 rfl) ?_
      refine r_getI X h (ci := 0) (k := 7) (C := RX0) (T := TX0) (N := 36) rfl in_X0 (by decide) q149 rfl dX0_most_41 hf (fun x10 hf => ?_)
      refine lv_ishl X.hx X.hb dX0_most_44 ?_
      refine lv_iconst (v := 1) X.hx X.hb dX0_most_45 (by decide) ?_
      refine lv_isub X.hx X.hb dX0_most_46 ?_
      refine r_cVV (As := [.int 0, .int ((1 <<< (x10 &&& 31)) - 1)]) (rest := []) (C := RX0) (T := TX0) (N := 36) X h hf (fun res hres => wX0_mostOn l Γ 8 ad _ b0 0 ((1 <<< (x10 &&& 31)) - 1) res hres) rfl (cwV 2 X.hts (lw_V q881 q883 qs21 q82 q884) rfl rfl rfl (by decide +kernel) ⟨Nat.le_of_ble_eq_true rfl, Nat.le_of_ble_eq_true rfl⟩) rfl ⟨hl.1, Nat.le_of_ble_eq_true rfl, Nat.le_of_ble_eq_true rfl, Nat.le_of_ble_eq_true rfl⟩ rfl dX0_most_47 (fun μ11 H locs hf h => ?_)
      refine lv_aload_n X.hx X.hb dX0_most_50 rfl (lv_at hl 0 rfl) ?_
      refine lv_iload_n X.hx X.hb dX0_most_51 rfl (lv_at hl 1 rfl) ?_
      refine lv_aload_n X.hx X.hb dX0_most_52 rfl (lv_at hl 0 rfl) ?_
      refine r_getP X h (ci := 0) (k := 27) (C := RX0) (T := TX0) (N := 36) rfl in_X0 (by decide) q169 rfl dX0_most_53 hf (fun i12 hf => ?_)
      refine lv_aload_n X.hx X.hb dX0_most_56 rfl (lv_at hl 0 rfl) ?_
      refine r_getI X h (ci := 0) (k := 28) (C := RX0) (T := TX0) (N := 36) rfl in_X0 (by decide) q170 rfl dX0_most_57 hf (fun x13 hf => ?_)
      obtain ⟨⟨ek0, hek0⟩, hf⟩ := glv_some hf
      have hlt0 := (h.1 _ _ hek0).1
      clear hek0 ek0
      have hle := h.2.2.2
      refine r_cVI1 (As := [.int a1, .ref (ad i12), .int x13]) (rest := []) (C := RX0) (T := TX0) (N := 36) X h hf (fun res hres => wX0_layRow l Γ ad _ b0 a1 i12 x13 res hres) rfl (cwV 3 X.hts (lw_V q865 q867 qs20 q82 q868) rfl rfl rfl (by decide +kernel) ⟨Nat.le_of_ble_eq_true rfl, Nat.le_of_ble_eq_true rfl⟩) rfl ⟨hl.1, Nat.le_of_ble_eq_true rfl, Nat.le_of_ble_eq_true rfl, Nat.le_of_ble_eq_true rfl⟩ rfl dX0_most_60 (fun x14 ad16 μ15 H locs hf hag1 h => ?_)
      replace hl : lv_has ls 2 [(0, .ref (ad16 b0)), (1, .int a1)] := by rw [hag1 b0 hlt0]; exact hl
      replace hag : ∀ i, i < μ0.1 → ad16 i = ad i := fun i hi => (hag1 i (Nat.lt_of_lt_of_le hi hle)).trans (hag i hi)
      clear hag1 hle hlt0
      exact r_ri1 X h hag hr hlk (Nat.le_of_ble_eq_true rfl) (Nat.le_of_ble_eq_true rfl) dX0_most_63 hf
    · replace hf := gif_t hf hc
      clear hc
      refine lv_bipush (v := (-4)) X.hx X.hb dX0_most_16 (by decide) ?_
      exact r_ri1 X h hag hr hlk (Nat.le_of_ble_eq_true rfl) (Nat.le_of_ble_eq_true rfl) dX0_most_18 hf
  · replace hf := gif_t hf hc
    clear hc
    refine lv_iconst (v := (-1)) X.hx X.hb dX0_most_7 (by decide) ?_
    exact r_ri1 X h hag hr hlk (Nat.le_of_ble_eq_true rfl) (Nat.le_of_ble_eq_true rfl) dX0_most_8 hf
/-! X3_init -/
def fX3_init (μ0 : gM) (b0 : Nat) (a1 : Int32) (a2 : Int32) (a3 : Int32) : gR := gpk μ0 b0 0 a1 fun μ1 => gpk μ1 b0 1 a2 fun μ2 => gpk μ2 b0 2 a3 fun μ3 => some (none, μ3)
set_option maxHeartbeats 4000000 in
theorem wX3_init (l : Launch) (Γ : gG) (ad : Nat → Nat) (μ0 : gM) (b0 : Nat) (a1 : Int32) (a2 : Int32) (a3 : Int32) (r : Option Value × gM) (hf : fX3_init μ0 b0 a1 a2 a3 = some r) : gMt0 l Γ yX3_init (ws_ yX3_init cX3_init 4 none) ({ frames := 1, cells := 0, slots := 0, locals := 20 } : Room) 0 0 ad μ0 [.ref (ad b0), .int a1, .int a2, .int a3] r := by
  intro sz
  refine g_start (maxL := 4) (ret := none) (by decide) rfl g_all (Nat.le_of_ble_eq_true rfl) ?_
  intro p e s m below meth c ls hr hlk hnm X h hl
  generalize gA ad μ0 sz = A at X h ⊢
  generalize ([.ref (ad b0), .int a1, .int a2, .int a3] : List Value).toArray = args at X ⊢
  have X : gX p m c cX3_init 4 s args "SandPiano$Key" Γ A := X
  have hl : lv_has ls 4 [(0, .ref (ad b0)), (1, .int a1), (2, .int a2), (3, .int a3)] := hl
  show W p l e ({ frames := 1, cells := 0, slots := 0, locals := 20 } : Room) s m args below meth c s.heap [] 0 0 (MQ below (gQ0 Γ ad μ0.1 r A) args s 0 0 A) (F0 m 0 ls [])
  unfold fX3_init at hf
  refine lv_aload_n X.hx X.hb dX3_init_0 rfl (lv_at hl 0 rfl) ?_
  refine W.objInit X.hx X.hb X.hown (X.hts _ q488) (X.hts _ q111) (X.hts _ q112) rfl (by rw [X.hml]; exact hl.1) rfl dX3_init_1 (Nat.le_of_ble_eq_true rfl) (Nat.le_of_ble_eq_true rfl) ?_
  refine W.eq (g2 := F0 m 4 ls []) rfl ?_
  refine lv_aload_n X.hx X.hb dX3_init_4 rfl (lv_at hl 0 rfl) ?_
  refine lv_iload_n X.hx X.hb dX3_init_5 rfl (lv_at hl 1 rfl) ?_
  refine r_putFK X h (k := 0) (by decide) q489 hnm dX3_init_6 hf (fun μ1 H locs hf h => ?_)
  refine lv_aload_n X.hx X.hb dX3_init_9 rfl (lv_at hl 0 rfl) ?_
  refine lv_iload_n X.hx X.hb dX3_init_10 rfl (lv_at hl 2 rfl) ?_
  refine r_putFK X h (k := 1) (by decide) q490 hnm dX3_init_11 hf (fun μ2 H locs hf h => ?_)
  refine lv_aload_n X.hx X.hb dX3_init_14 rfl (lv_at hl 0 rfl) ?_
  refine lv_iload_n X.hx X.hb dX3_init_15 rfl (lv_at hl 3 rfl) ?_
  refine r_putFK X h (k := 2) (by decide) q491 hnm dX3_init_16 hf (fun μ3 H locs hf h => ?_)
  exact r_rv X h hr hlk (Nat.le_of_ble_eq_true rfl) (Nat.le_of_ble_eq_true rfl) dX3_init_19 hf
/-! X4_init -/
def fX4_init (μ0 : gM) (b0 : Nat) (a1 : Int32) (a2 : Int32) (a3 : Int32) : gR := cV (fX3_init μ0 b0 a1 a2 a3) fun μ1 => some (none, μ1)
set_option maxHeartbeats 4000000 in
theorem wX4_init (l : Launch) (Γ : gG) (ad : Nat → Nat) (μ0 : gM) (b0 : Nat) (a1 : Int32) (a2 : Int32) (a3 : Int32) (r : Option Value × gM) (hf : fX4_init μ0 b0 a1 a2 a3 = some r) : gMt0 l Γ yX4_init (ws_ yX4_init cX4_init 4 none) ({ frames := 2, cells := 0, slots := 0, locals := 43 } : Room) 0 0 ad μ0 [.ref (ad b0), .int a1, .int a2, .int a3] r := by
  intro sz
  refine g_start (maxL := 4) (ret := none) (by decide) rfl g_all (Nat.le_of_ble_eq_true rfl) ?_
  intro p e s m below meth c ls hr hlk hnm X h hl
  generalize gA ad μ0 sz = A at X h ⊢
  generalize ([.ref (ad b0), .int a1, .int a2, .int a3] : List Value).toArray = args at X ⊢
  have X : gX p m c cX4_init 4 s args "SandPiano$Bass" Γ A := X
  have hl : lv_has ls 4 [(0, .ref (ad b0)), (1, .int a1), (2, .int a2), (3, .int a3)] := hl
  show W p l e ({ frames := 2, cells := 0, slots := 0, locals := 43 } : Room) s m args below meth c s.heap [] 0 0 (MQ below (gQ0 Γ ad μ0.1 r A) args s 0 0 A) (F0 m 0 ls [])
  unfold fX4_init at hf
  refine lv_aload_n X.hx X.hb dX4_init_0 rfl (lv_at hl 0 rfl) ?_
  refine lv_iload_n X.hx X.hb dX4_init_1 rfl (lv_at hl 1 rfl) ?_
  refine lv_iload_n X.hx X.hb dX4_init_2 rfl (lv_at hl 2 rfl) ?_
  refine lv_iload_n X.hx X.hb dX4_init_3 rfl (lv_at hl 3 rfl) ?_
  refine r_cX0 X h (rest := []) (mc := 0) (ms := 0) hf (fun res hres => ⟨_, g_runI (i := b0) (As := [.int a1, .int a2, .int a3]) X h (wX3_init l Γ ad _ b0 a1 a2 a3 res hres _) (cwI 3 X.hts (lw_meth q487) rfl rfl rfl (X.hts _ q95) (X.hts _ q485) (X.hts _ q486) rfl (by decide +kernel) ⟨Nat.le_of_ble_eq_true rfl, Nat.le_of_ble_eq_true rfl⟩) rfl ⟨hl.1, Nat.le_of_ble_eq_true rfl, Nat.le_of_ble_eq_true rfl, Nat.le_of_ble_eq_true rfl⟩ rfl dX4_init_4⟩) (fun μ1 H locs hf h => ?_)
  exact r_rv X h hr hlk (Nat.le_of_ble_eq_true rfl) (Nat.le_of_ble_eq_true rfl) dX4_init_7 hf
/-! X6_init -/
def fX6_init (μ0 : gM) (b0 : Nat) (a1 : Int32) (a2 : Int32) (a3 : Int32) : gR := cV (fX3_init μ0 b0 a1 a2 a3) fun μ1 => some (none, μ1)
set_option maxHeartbeats 4000000 in
theorem wX6_init (l : Launch) (Γ : gG) (ad : Nat → Nat) (μ0 : gM) (b0 : Nat) (a1 : Int32) (a2 : Int32) (a3 : Int32) (r : Option Value × gM) (hf : fX6_init μ0 b0 a1 a2 a3 = some r) : gMt0 l Γ yX6_init (ws_ yX6_init cX6_init 4 none) ({ frames := 2, cells := 0, slots := 0, locals := 43 } : Room) 0 0 ad μ0 [.ref (ad b0), .int a1, .int a2, .int a3] r := by
  intro sz
  refine g_start (maxL := 4) (ret := none) (by decide) rfl g_all (Nat.le_of_ble_eq_true rfl) ?_
  intro p e s m below meth c ls hr hlk hnm X h hl
  generalize gA ad μ0 sz = A at X h ⊢
  generalize ([.ref (ad b0), .int a1, .int a2, .int a3] : List Value).toArray = args at X ⊢
  have X : gX p m c cX6_init 4 s args "SandPiano$Crab" Γ A := X
  have hl : lv_has ls 4 [(0, .ref (ad b0)), (1, .int a1), (2, .int a2), (3, .int a3)] := hl
  show W p l e ({ frames := 2, cells := 0, slots := 0, locals := 43 } : Room) s m args below meth c s.heap [] 0 0 (MQ below (gQ0 Γ ad μ0.1 r A) args s 0 0 A) (F0 m 0 ls [])
  unfold fX6_init at hf
  refine lv_aload_n X.hx X.hb dX6_init_0 rfl (lv_at hl 0 rfl) ?_
  refine lv_iload_n X.hx X.hb dX6_init_1 rfl (lv_at hl 1 rfl) ?_
  refine lv_iload_n X.hx X.hb dX6_init_2 rfl (lv_at hl 2 rfl) ?_
  refine lv_iload_n X.hx X.hb dX6_init_3 rfl (lv_at hl 3 rfl) ?_
  refine r_cX0 X h (rest := []) (mc := 0) (ms := 0) hf (fun res hres => ⟨_, g_runI (i := b0) (As := [.int a1, .int a2, .int a3]) X h (wX3_init l Γ ad _ b0 a1 a2 a3 res hres _) (cwI 3 X.hts (lw_meth q487) rfl rfl rfl (X.hts _ q95) (X.hts _ q514) (X.hts _ q486) rfl (by decide +kernel) ⟨Nat.le_of_ble_eq_true rfl, Nat.le_of_ble_eq_true rfl⟩) rfl ⟨hl.1, Nat.le_of_ble_eq_true rfl, Nat.le_of_ble_eq_true rfl, Nat.le_of_ble_eq_true rfl⟩ rfl dX6_init_4⟩) (fun μ1 H locs hf h => ?_)
  exact r_rv X h hr hlk (Nat.le_of_ble_eq_true rfl) (Nat.le_of_ble_eq_true rfl) dX6_init_7 hf
/-! X7_init -/
def fX7_init (μ0 : gM) (b0 : Nat) (a1 : Int32) (a2 : Int32) (a3 : Int32) : gR := cV (fX4_init μ0 b0 a1 a2 a3) fun μ1 => some (none, μ1)
set_option maxHeartbeats 4000000 in
theorem wX7_init (l : Launch) (Γ : gG) (ad : Nat → Nat) (μ0 : gM) (b0 : Nat) (a1 : Int32) (a2 : Int32) (a3 : Int32) (r : Option Value × gM) (hf : fX7_init μ0 b0 a1 a2 a3 = some r) : gMt0 l Γ yX7_init (ws_ yX7_init cX7_init 4 none) ({ frames := 3, cells := 0, slots := 0, locals := 66 } : Room) 0 0 ad μ0 [.ref (ad b0), .int a1, .int a2, .int a3] r := by
  intro sz
  refine g_start (maxL := 4) (ret := none) (by decide) rfl g_all (Nat.le_of_ble_eq_true rfl) ?_
  intro p e s m below meth c ls hr hlk hnm X h hl
  generalize gA ad μ0 sz = A at X h ⊢
  generalize ([.ref (ad b0), .int a1, .int a2, .int a3] : List Value).toArray = args at X ⊢
  have X : gX p m c cX7_init 4 s args "SandPiano$Drum" Γ A := X
  have hl : lv_has ls 4 [(0, .ref (ad b0)), (1, .int a1), (2, .int a2), (3, .int a3)] := hl
  show W p l e ({ frames := 3, cells := 0, slots := 0, locals := 66 } : Room) s m args below meth c s.heap [] 0 0 (MQ below (gQ0 Γ ad μ0.1 r A) args s 0 0 A) (F0 m 0 ls [])
  unfold fX7_init at hf
  refine lv_aload_n X.hx X.hb dX7_init_0 rfl (lv_at hl 0 rfl) ?_
  refine lv_iload_n X.hx X.hb dX7_init_1 rfl (lv_at hl 1 rfl) ?_
  refine lv_iload_n X.hx X.hb dX7_init_2 rfl (lv_at hl 2 rfl) ?_
  refine lv_iload_n X.hx X.hb dX7_init_3 rfl (lv_at hl 3 rfl) ?_
  refine r_cX0 X h (rest := []) (mc := 0) (ms := 0) hf (fun res hres => ⟨_, g_runI (i := b0) (As := [.int a1, .int a2, .int a3]) X h (wX4_init l Γ ad _ b0 a1 a2 a3 res hres _) (cwI 3 X.hts (lw_meth q484) rfl rfl rfl (X.hts _ q96) (X.hts _ q524) (X.hts _ q483) rfl (by decide +kernel) ⟨Nat.le_of_ble_eq_true rfl, Nat.le_of_ble_eq_true rfl⟩) rfl ⟨hl.1, Nat.le_of_ble_eq_true rfl, Nat.le_of_ble_eq_true rfl, Nat.le_of_ble_eq_true rfl⟩ rfl dX7_init_4⟩) (fun μ1 H locs hf h => ?_)
  exact r_rv X h hr hlk (Nat.le_of_ble_eq_true rfl) (Nat.le_of_ble_eq_true rfl) dX7_init_7 hf
/-! X5_init -/
def fX5_init (μ0 : gM) (b0 : Nat) (a1 : Int32) (a2 : Int32) (a3 : Int32) : gR := cV (fX3_init μ0 b0 a1 a2 a3) fun μ1 => some (none, μ1)
set_option maxHeartbeats 4000000 in
theorem wX5_init (l : Launch) (Γ : gG) (ad : Nat → Nat) (μ0 : gM) (b0 : Nat) (a1 : Int32) (a2 : Int32) (a3 : Int32) (r : Option Value × gM) (hf : fX5_init μ0 b0 a1 a2 a3 = some r) : gMt0 l Γ yX5_init (ws_ yX5_init cX5_init 4 none) ({ frames := 2, cells := 0, slots := 0, locals := 43 } : Room) 0 0 ad μ0 [.ref (ad b0), .int a1, .int a2, .int a3] r := by
  intro sz
  refine g_start (maxL := 4) (ret := none) (by decide) rfl g_all (Nat.le_of_ble_eq_true rfl) ?_
  intro p e s m below meth c ls hr hlk hnm X h hl
  generalize gA ad μ0 sz = A at X h ⊢
  generalize ([.ref (ad b0), .int a1, .int a2, .int a3] : List Value).toArray = args at X ⊢
  have X : gX p m c cX5_init 4 s args "SandPiano$Shell" Γ A := X
  have hl : lv_has ls 4 [(0, .ref (ad b0)), (1, .int a1), (2, .int a2), (3, .int a3)] := hl
  show W p l e ({ frames := 2, cells := 0, slots := 0, locals := 43 } : Room) s m args below meth c s.heap [] 0 0 (MQ below (gQ0 Γ ad μ0.1 r A) args s 0 0 A) (F0 m 0 ls [])
  unfold fX5_init at hf
  refine lv_aload_n X.hx X.hb dX5_init_0 rfl (lv_at hl 0 rfl) ?_
  refine lv_iload_n X.hx X.hb dX5_init_1 rfl (lv_at hl 1 rfl) ?_
  refine lv_iload_n X.hx X.hb dX5_init_2 rfl (lv_at hl 2 rfl) ?_
  refine lv_iload_n X.hx X.hb dX5_init_3 rfl (lv_at hl 3 rfl) ?_
  refine r_cX0 X h (rest := []) (mc := 0) (ms := 0) hf (fun res hres => ⟨_, g_runI (i := b0) (As := [.int a1, .int a2, .int a3]) X h (wX3_init l Γ ad _ b0 a1 a2 a3 res hres _) (cwI 3 X.hts (lw_meth q487) rfl rfl rfl (X.hts _ q95) (X.hts _ q504) (X.hts _ q486) rfl (by decide +kernel) ⟨Nat.le_of_ble_eq_true rfl, Nat.le_of_ble_eq_true rfl⟩) rfl ⟨hl.1, Nat.le_of_ble_eq_true rfl, Nat.le_of_ble_eq_true rfl, Nat.le_of_ble_eq_true rfl⟩ rfl dX5_init_4⟩) (fun μ1 H locs hf h => ?_)
  exact r_rv X h hr hlk (Nat.le_of_ble_eq_true rfl) (Nat.le_of_ble_eq_true rfl) dX5_init_7 hf
/-! X8_init -/
def fX8_init (μ0 : gM) (b0 : Nat) (a1 : Int32) (a2 : Int32) (a3 : Int32) : gR := cV (fX5_init μ0 b0 a1 a2 a3) fun μ1 => some (none, μ1)
set_option maxHeartbeats 4000000 in
theorem wX8_init (l : Launch) (Γ : gG) (ad : Nat → Nat) (μ0 : gM) (b0 : Nat) (a1 : Int32) (a2 : Int32) (a3 : Int32) (r : Option Value × gM) (hf : fX8_init μ0 b0 a1 a2 a3 = some r) : gMt0 l Γ yX8_init (ws_ yX8_init cX8_init 4 none) ({ frames := 3, cells := 0, slots := 0, locals := 66 } : Room) 0 0 ad μ0 [.ref (ad b0), .int a1, .int a2, .int a3] r := by
  intro sz
  refine g_start (maxL := 4) (ret := none) (by decide) rfl g_all (Nat.le_of_ble_eq_true rfl) ?_
  intro p e s m below meth c ls hr hlk hnm X h hl
  generalize gA ad μ0 sz = A at X h ⊢
  generalize ([.ref (ad b0), .int a1, .int a2, .int a3] : List Value).toArray = args at X ⊢
  have X : gX p m c cX8_init 4 s args "SandPiano$Ring" Γ A := X
  have hl : lv_has ls 4 [(0, .ref (ad b0)), (1, .int a1), (2, .int a2), (3, .int a3)] := hl
  show W p l e ({ frames := 3, cells := 0, slots := 0, locals := 66 } : Room) s m args below meth c s.heap [] 0 0 (MQ below (gQ0 Γ ad μ0.1 r A) args s 0 0 A) (F0 m 0 ls [])
  unfold fX8_init at hf
  refine lv_aload_n X.hx X.hb dX8_init_0 rfl (lv_at hl 0 rfl) ?_
  refine lv_iload_n X.hx X.hb dX8_init_1 rfl (lv_at hl 1 rfl) ?_
  refine lv_iload_n X.hx X.hb dX8_init_2 rfl (lv_at hl 2 rfl) ?_
  refine lv_iload_n X.hx X.hb dX8_init_3 rfl (lv_at hl 3 rfl) ?_
  refine r_cX0 X h (rest := []) (mc := 0) (ms := 0) hf (fun res hres => ⟨_, g_runI (i := b0) (As := [.int a1, .int a2, .int a3]) X h (wX5_init l Γ ad _ b0 a1 a2 a3 res hres _) (cwI 3 X.hts (lw_meth q503) rfl rfl rfl (X.hts _ q97) (X.hts _ q534) (X.hts _ q502) rfl (by decide +kernel) ⟨Nat.le_of_ble_eq_true rfl, Nat.le_of_ble_eq_true rfl⟩) rfl ⟨hl.1, Nat.le_of_ble_eq_true rfl, Nat.le_of_ble_eq_true rfl, Nat.le_of_ble_eq_true rfl⟩ rfl dX8_init_4⟩) (fun μ1 H locs hf h => ?_)
  exact r_rv X h hr hlk (Nat.le_of_ble_eq_true rfl) (Nat.le_of_ble_eq_true rfl) dX8_init_7 hf
/-! X0_newKey -/
def fX0_newKey (μ0 : gM) (a1 : Int32) (a2 : Int32) (a3 : Int32) (a4 : Int32) : gR := if a1 = 98 then (gno μ0 4 [.int 0, .int 0, .int 0] fun μ2 i3 => cV (fX4_init μ2 i3 a2 a3 a4) fun μ4 => some (some (.ref i3), μ4)) else if a1 = 99 then (gno μ0 6 [.int 0, .int 0, .int 0] fun μ6 i7 => cV (fX6_init μ6 i7 a2 a3 a4) fun μ8 => some (some (.ref i7), μ8)) else if a1 = 100 then (gno μ0 7 [.int 0, .int 0, .int 0] fun μ10 i11 => cV (fX7_init μ10 i11 a2 a3 a4) fun μ12 => some (some (.ref i11), μ12)) else if a1 = 114 then (gno μ0 8 [.int 0, .int 0, .int 0] fun μ14 i15 => cV (fX8_init μ14 i15 a2 a3 a4) fun μ16 => some (some (.ref i15), μ16)) else if a1 = 115 then (gno μ0 5 [.int 0, .int 0, .int 0] fun μ18 i19 => cV (fX5_init μ18 i19 a2 a3 a4) fun μ20 => some (some (.ref i19), μ20)) else (gno μ0 3 [.int 0, .int 0, .int 0] fun μ22 i23 => cV (fX3_init μ22 i23 a2 a3 a4) fun μ24 => some (some (.ref i23), μ24))
set_option maxHeartbeats 4000000 in
theorem wX0_newKey (l : Launch) (Γ : gG) (ad : Nat → Nat) (μ0 : gM) (a1 : Int32) (a2 : Int32) (a3 : Int32) (a4 : Int32) (r : Option Value × gM) (hf : fX0_newKey μ0 a1 a2 a3 a4 = some r) : gMt1 l Γ yX0_newKey (ws_ yX0_newKey cX0_newKey 4 (some (.object "SandPiano$Key"))) ({ frames := 4, cells := 1, slots := 3, locals := 89 } : Room) 1 3 ad μ0 [.int a1, .int a2, .int a3, .int a4] r := by
  intro sz
  refine g_start (maxL := 4) (ret := (some (.object "SandPiano$Key"))) (by decide) rfl g_all (Nat.le_of_ble_eq_true rfl) ?_
  intro p e s m below meth c ls hr hlk hnm X h hl
  generalize gA ad μ0 sz = A at X h ⊢
  generalize ([.int a1, .int a2, .int a3, .int a4] : List Value).toArray = args at X ⊢
  have X : gX p m c cX0_newKey 4 s args "SandPiano" Γ A := X
  have hl : lv_has ls 4 [(0, .int a1), (1, .int a2), (2, .int a3), (3, .int a4)] := hl
  show W p l e ({ frames := 4, cells := 1, slots := 3, locals := 89 } : Room) s m args below meth c s.heap [] 0 0 (MQ below (gQ1 Γ ad μ0.1 r A) args s 1 3 A) (F0 m 0 ls [])
  unfold fX0_newKey at hf
  have hag : ∀ i, i < μ0.1 → ad i = ad i := fun _ _ => rfl
  refine lv_iload_n X.hx X.hb dX0_newKey_0 rfl (lv_at hl 0 rfl) ?_
  by_cases hc0 : a1 = 98
  · replace hf := gif_t hf hc0
    refine lv_lookup (tgt := 52) X.hx X.hb dX0_newKey_1 (by decide) (by rw [hc0]) (by decide) ?_
    clear hc0
    have hle := h.2.2.2
    refine r_newO X h (C := RX4) (T := TX4) (N := 3) (ty := tyX4) rfl in_X4 tyX4_ok q480 q481 q96 (fun j hj => by rcases (show j = 0 ∨ j = 1 ∨ j = 2 by omega) with rfl | rfl | rfl <;> rfl) (by intro v hv j; simp only [List.mem_cons, List.not_mem_nil, or_false] at hv; rcases hv with rfl | rfl | rfl <;> exact fun h9 => by cases h9) (Nat.le_of_ble_eq_true rfl) (Nat.le_of_ble_eq_true rfl) dX0_newKey_52 hf (fun ad1 i3 μ2 H locs hf hag1 h => ?_)
    replace hag : ∀ i, i < μ0.1 → ad1 i = ad i := fun i hi => (hag1 i (Nat.lt_of_lt_of_le hi hle)).trans (hag i hi)
    clear hag1 hle
    refine lv_dup X.hx X.hb dX0_newKey_55 rfl ?_
    refine lv_iload_n X.hx X.hb dX0_newKey_56 rfl (lv_at hl 1 rfl) ?_
    refine lv_iload_n X.hx X.hb dX0_newKey_57 rfl (lv_at hl 2 rfl) ?_
    refine lv_iload_n X.hx X.hb dX0_newKey_58 rfl (lv_at hl 3 rfl) ?_
    refine r_cX0 X h (rest := [.ref (ad1 i3)]) (mc := 0) (ms := 0) hf (fun res hres => ⟨_, g_runI (i := i3) (As := [.int a2, .int a3, .int a4]) X h (wX4_init l Γ ad1 _ i3 a2 a3 a4 res hres _) (cwI 3 X.hts (lw_meth q484) rfl rfl rfl (X.hts _ q96) (X.hts _ q482) (X.hts _ q483) rfl (by decide +kernel) ⟨Nat.le_of_ble_eq_true rfl, Nat.le_of_ble_eq_true rfl⟩) rfl ⟨hl.1, Nat.le_of_ble_eq_true rfl, Nat.le_of_ble_eq_true rfl, Nat.le_of_ble_eq_true rfl⟩ rfl dX0_newKey_59⟩) (fun μ4 H locs hf h => ?_)
    exact r_ra1 X h hag hr (Or.inl ⟨_, rfl⟩) hlk (Nat.le_of_ble_eq_true rfl) (Nat.le_of_ble_eq_true rfl) dX0_newKey_62 hf
  replace hf := gif_f hf hc0
  by_cases hc1 : a1 = 99
  · replace hf := gif_t hf hc1
    refine lv_lookup (tgt := 74) X.hx X.hb dX0_newKey_1 (by decide) (by rw [hc1]) (by decide) ?_
    clear hc1
    have hle := h.2.2.2
    refine r_newO X h (C := RX6) (T := TX6) (N := 3) (ty := tyX6) rfl in_X6 tyX6_ok q509 q510 q98 (fun j hj => by rcases (show j = 0 ∨ j = 1 ∨ j = 2 by omega) with rfl | rfl | rfl <;> rfl) (by intro v hv j; simp only [List.mem_cons, List.not_mem_nil, or_false] at hv; rcases hv with rfl | rfl | rfl <;> exact fun h9 => by cases h9) (Nat.le_of_ble_eq_true rfl) (Nat.le_of_ble_eq_true rfl) dX0_newKey_74 hf (fun ad5 i7 μ6 H locs hf hag1 h => ?_)
    replace hag : ∀ i, i < μ0.1 → ad5 i = ad i := fun i hi => (hag1 i (Nat.lt_of_lt_of_le hi hle)).trans (hag i hi)
    clear hag1 hle
    refine lv_dup X.hx X.hb dX0_newKey_77 rfl ?_
    refine lv_iload_n X.hx X.hb dX0_newKey_78 rfl (lv_at hl 1 rfl) ?_
    refine lv_iload_n X.hx X.hb dX0_newKey_79 rfl (lv_at hl 2 rfl) ?_
    refine lv_iload_n X.hx X.hb dX0_newKey_80 rfl (lv_at hl 3 rfl) ?_
    refine r_cX0 X h (rest := [.ref (ad5 i7)]) (mc := 0) (ms := 0) hf (fun res hres => ⟨_, g_runI (i := i7) (As := [.int a2, .int a3, .int a4]) X h (wX6_init l Γ ad5 _ i7 a2 a3 a4 res hres _) (cwI 3 X.hts (lw_meth q513) rfl rfl rfl (X.hts _ q98) (X.hts _ q511) (X.hts _ q512) rfl (by decide +kernel) ⟨Nat.le_of_ble_eq_true rfl, Nat.le_of_ble_eq_true rfl⟩) rfl ⟨hl.1, Nat.le_of_ble_eq_true rfl, Nat.le_of_ble_eq_true rfl, Nat.le_of_ble_eq_true rfl⟩ rfl dX0_newKey_81⟩) (fun μ8 H locs hf h => ?_)
    exact r_ra1 X h hag hr (Or.inl ⟨_, rfl⟩) hlk (Nat.le_of_ble_eq_true rfl) (Nat.le_of_ble_eq_true rfl) dX0_newKey_84 hf
  replace hf := gif_f hf hc1
  by_cases hc2 : a1 = 100
  · replace hf := gif_t hf hc2
    refine lv_lookup (tgt := 85) X.hx X.hb dX0_newKey_1 (by decide) (by rw [hc2]) (by decide) ?_
    clear hc2
    have hle := h.2.2.2
    refine r_newO X h (C := RX7) (T := TX7) (N := 3) (ty := tyX7) rfl in_X7 tyX7_ok q519 q520 q99 (fun j hj => by rcases (show j = 0 ∨ j = 1 ∨ j = 2 by omega) with rfl | rfl | rfl <;> rfl) (by intro v hv j; simp only [List.mem_cons, List.not_mem_nil, or_false] at hv; rcases hv with rfl | rfl | rfl <;> exact fun h9 => by cases h9) (Nat.le_of_ble_eq_true rfl) (Nat.le_of_ble_eq_true rfl) dX0_newKey_85 hf (fun ad9 i11 μ10 H locs hf hag1 h => ?_)
    replace hag : ∀ i, i < μ0.1 → ad9 i = ad i := fun i hi => (hag1 i (Nat.lt_of_lt_of_le hi hle)).trans (hag i hi)
    clear hag1 hle
    refine lv_dup X.hx X.hb dX0_newKey_88 rfl ?_
    refine lv_iload_n X.hx X.hb dX0_newKey_89 rfl (lv_at hl 1 rfl) ?_
    refine lv_iload_n X.hx X.hb dX0_newKey_90 rfl (lv_at hl 2 rfl) ?_
    refine lv_iload_n X.hx X.hb dX0_newKey_91 rfl (lv_at hl 3 rfl) ?_
    refine r_cX0 X h (rest := [.ref (ad9 i11)]) (mc := 0) (ms := 0) hf (fun res hres => ⟨_, g_runI (i := i11) (As := [.int a2, .int a3, .int a4]) X h (wX7_init l Γ ad9 _ i11 a2 a3 a4 res hres _) (cwI 3 X.hts (lw_meth q523) rfl rfl rfl (X.hts _ q99) (X.hts _ q521) (X.hts _ q522) rfl (by decide +kernel) ⟨Nat.le_of_ble_eq_true rfl, Nat.le_of_ble_eq_true rfl⟩) rfl ⟨hl.1, Nat.le_of_ble_eq_true rfl, Nat.le_of_ble_eq_true rfl, Nat.le_of_ble_eq_true rfl⟩ rfl dX0_newKey_92⟩) (fun μ12 H locs hf h => ?_)
    exact r_ra1 X h hag hr (Or.inl ⟨_, rfl⟩) hlk (Nat.le_of_ble_eq_true rfl) (Nat.le_of_ble_eq_true rfl) dX0_newKey_95 hf
  replace hf := gif_f hf hc2
  by_cases hc3 : a1 = 114
  · replace hf := gif_t hf hc3
    refine lv_lookup (tgt := 96) X.hx X.hb dX0_newKey_1 (by decide) (by rw [hc3]) (by decide) ?_
    clear hc3
    have hle := h.2.2.2
    refine r_newO X h (C := RX8) (T := TX8) (N := 3) (ty := tyX8) rfl in_X8 tyX8_ok q529 q530 q100 (fun j hj => by rcases (show j = 0 ∨ j = 1 ∨ j = 2 by omega) with rfl | rfl | rfl <;> rfl) (by intro v hv j; simp only [List.mem_cons, List.not_mem_nil, or_false] at hv; rcases hv with rfl | rfl | rfl <;> exact fun h9 => by cases h9) (Nat.le_of_ble_eq_true rfl) (Nat.le_of_ble_eq_true rfl) dX0_newKey_96 hf (fun ad13 i15 μ14 H locs hf hag1 h => ?_)
    replace hag : ∀ i, i < μ0.1 → ad13 i = ad i := fun i hi => (hag1 i (Nat.lt_of_lt_of_le hi hle)).trans (hag i hi)
    clear hag1 hle
    refine lv_dup X.hx X.hb dX0_newKey_99 rfl ?_
    refine lv_iload_n X.hx X.hb dX0_newKey_100 rfl (lv_at hl 1 rfl) ?_
    refine lv_iload_n X.hx X.hb dX0_newKey_101 rfl (lv_at hl 2 rfl) ?_
    refine lv_iload_n X.hx X.hb dX0_newKey_102 rfl (lv_at hl 3 rfl) ?_
    refine r_cX0 X h (rest := [.ref (ad13 i15)]) (mc := 0) (ms := 0) hf (fun res hres => ⟨_, g_runI (i := i15) (As := [.int a2, .int a3, .int a4]) X h (wX8_init l Γ ad13 _ i15 a2 a3 a4 res hres _) (cwI 3 X.hts (lw_meth q533) rfl rfl rfl (X.hts _ q100) (X.hts _ q531) (X.hts _ q532) rfl (by decide +kernel) ⟨Nat.le_of_ble_eq_true rfl, Nat.le_of_ble_eq_true rfl⟩) rfl ⟨hl.1, Nat.le_of_ble_eq_true rfl, Nat.le_of_ble_eq_true rfl, Nat.le_of_ble_eq_true rfl⟩ rfl dX0_newKey_103⟩) (fun μ16 H locs hf h => ?_)
    exact r_ra1 X h hag hr (Or.inl ⟨_, rfl⟩) hlk (Nat.le_of_ble_eq_true rfl) (Nat.le_of_ble_eq_true rfl) dX0_newKey_106 hf
  replace hf := gif_f hf hc3
  by_cases hc4 : a1 = 115
  · replace hf := gif_t hf hc4
    refine lv_lookup (tgt := 63) X.hx X.hb dX0_newKey_1 (by decide) (by rw [hc4]) (by decide) ?_
    clear hc4
    have hle := h.2.2.2
    refine r_newO X h (C := RX5) (T := TX5) (N := 3) (ty := tyX5) rfl in_X5 tyX5_ok q499 q500 q97 (fun j hj => by rcases (show j = 0 ∨ j = 1 ∨ j = 2 by omega) with rfl | rfl | rfl <;> rfl) (by intro v hv j; simp only [List.mem_cons, List.not_mem_nil, or_false] at hv; rcases hv with rfl | rfl | rfl <;> exact fun h9 => by cases h9) (Nat.le_of_ble_eq_true rfl) (Nat.le_of_ble_eq_true rfl) dX0_newKey_63 hf (fun ad17 i19 μ18 H locs hf hag1 h => ?_)
    replace hag : ∀ i, i < μ0.1 → ad17 i = ad i := fun i hi => (hag1 i (Nat.lt_of_lt_of_le hi hle)).trans (hag i hi)
    clear hag1 hle
    refine lv_dup X.hx X.hb dX0_newKey_66 rfl ?_
    refine lv_iload_n X.hx X.hb dX0_newKey_67 rfl (lv_at hl 1 rfl) ?_
    refine lv_iload_n X.hx X.hb dX0_newKey_68 rfl (lv_at hl 2 rfl) ?_
    refine lv_iload_n X.hx X.hb dX0_newKey_69 rfl (lv_at hl 3 rfl) ?_
    refine r_cX0 X h (rest := [.ref (ad17 i19)]) (mc := 0) (ms := 0) hf (fun res hres => ⟨_, g_runI (i := i19) (As := [.int a2, .int a3, .int a4]) X h (wX5_init l Γ ad17 _ i19 a2 a3 a4 res hres _) (cwI 3 X.hts (lw_meth q503) rfl rfl rfl (X.hts _ q97) (X.hts _ q501) (X.hts _ q502) rfl (by decide +kernel) ⟨Nat.le_of_ble_eq_true rfl, Nat.le_of_ble_eq_true rfl⟩) rfl ⟨hl.1, Nat.le_of_ble_eq_true rfl, Nat.le_of_ble_eq_true rfl, Nat.le_of_ble_eq_true rfl⟩ rfl dX0_newKey_70⟩) (fun μ20 H locs hf h => ?_)
    exact r_ra1 X h hag hr (Or.inl ⟨_, rfl⟩) hlk (Nat.le_of_ble_eq_true rfl) (Nat.le_of_ble_eq_true rfl) dX0_newKey_73 hf
  replace hf := gif_f hf hc4
  have hn0 : (a1 : Int32).toInt ≠ 98 := fun h9 => hc0 (Int32.toInt_inj.mp (h9.trans (by decide)))
  have hn1 : (a1 : Int32).toInt ≠ 99 := fun h9 => hc1 (Int32.toInt_inj.mp (h9.trans (by decide)))
  have hn2 : (a1 : Int32).toInt ≠ 100 := fun h9 => hc2 (Int32.toInt_inj.mp (h9.trans (by decide)))
  have hn3 : (a1 : Int32).toInt ≠ 114 := fun h9 => hc3 (Int32.toInt_inj.mp (h9.trans (by decide)))
  have hn4 : (a1 : Int32).toInt ≠ 115 := fun h9 => hc4 (Int32.toInt_inj.mp (h9.trans (by decide)))
  refine lv_lookup (tgt := 107) X.hx X.hb dX0_newKey_1 (by decide) (by simp [Op.lookupswitch.offset, hn0, hn1, hn2, hn3, hn4, Ne.symm hn0, Ne.symm hn1, Ne.symm hn2, Ne.symm hn3, Ne.symm hn4]; rfl) (by decide) ?_
  clear hn0 hn1 hn2 hn3 hn4 hc0 hc1 hc2 hc3 hc4
  have hle := h.2.2.2
  refine r_newO X h (C := RX3) (T := TX3) (N := 3) (ty := tyX3) rfl in_X3 tyX3_ok q117 q539 q95 (fun j hj => by rcases (show j = 0 ∨ j = 1 ∨ j = 2 by omega) with rfl | rfl | rfl <;> rfl) (by intro v hv j; simp only [List.mem_cons, List.not_mem_nil, or_false] at hv; rcases hv with rfl | rfl | rfl <;> exact fun h9 => by cases h9) (Nat.le_of_ble_eq_true rfl) (Nat.le_of_ble_eq_true rfl) dX0_newKey_107 hf (fun ad21 i23 μ22 H locs hf hag1 h => ?_)
  replace hag : ∀ i, i < μ0.1 → ad21 i = ad i := fun i hi => (hag1 i (Nat.lt_of_lt_of_le hi hle)).trans (hag i hi)
  clear hag1 hle
  refine lv_dup X.hx X.hb dX0_newKey_110 rfl ?_
  refine lv_iload_n X.hx X.hb dX0_newKey_111 rfl (lv_at hl 1 rfl) ?_
  refine lv_iload_n X.hx X.hb dX0_newKey_112 rfl (lv_at hl 2 rfl) ?_
  refine lv_iload_n X.hx X.hb dX0_newKey_113 rfl (lv_at hl 3 rfl) ?_
  refine r_cX0 X h (rest := [.ref (ad21 i23)]) (mc := 0) (ms := 0) hf (fun res hres => ⟨_, g_runI (i := i23) (As := [.int a2, .int a3, .int a4]) X h (wX3_init l Γ ad21 _ i23 a2 a3 a4 res hres _) (cwI 3 X.hts (lw_meth q487) rfl rfl rfl (X.hts _ q95) (X.hts _ q540) (X.hts _ q486) rfl (by decide +kernel) ⟨Nat.le_of_ble_eq_true rfl, Nat.le_of_ble_eq_true rfl⟩) rfl ⟨hl.1, Nat.le_of_ble_eq_true rfl, Nat.le_of_ble_eq_true rfl, Nat.le_of_ble_eq_true rfl⟩ rfl dX0_newKey_114⟩) (fun μ24 H locs hf h => ?_)
  exact r_ra1 X h hag hr (Or.inl ⟨_, rfl⟩) hlk (Nat.le_of_ble_eq_true rfl) (Nat.le_of_ble_eq_true rfl) dX0_newKey_117 hf
/-! X0_on -/
def fX0_on (μ0 : gM) (b0 : Nat) (a1 : Int32) : gR := cI (fX0_isKept μ0 a1) fun x1 μ2 => if x1 = 0 then (some (some (.int (-1)), μ2)) else (gP (gfld μ2 b0 0 21) fun i3 => gaQ μ2 6 i3 a1 fun o4 => gnu o4 (gis μ2 b0 0 <| cI (fX0_found μ2 b0 1) fun x28 μ29 => some (some (.int x28), μ29)) (gP (gfld μ2 b0 0 10) fun i5 => gP (gfld μ2 b0 0 21) fun i6 => gaQ μ2 6 i6 a1 fun o7 => gnn o7 fun i8 => gP (gfld μ2 i8 9 0) fun i9 => gis μ2 i5 1 <| cV (fX1_take μ2 i5 i9) fun μ10 => gP (gfld μ10 b0 0 21) fun i11 => gaQ μ10 6 i11 a1 fun o12 => gnn o12 fun i13 => gP (gfld μ10 i13 9 1) fun i14 => gP (gfld μ10 b0 0 20) fun i15 => gcp μ10 i14 0 i15 0 540 fun μ16 => gP (gfld μ16 b0 0 21) fun i17 => gaQ μ16 6 i17 a1 fun o18 => gnn o18 fun i19 => gI (gfld μ16 i19 9 2) fun x20 => gpf μ16 b0 0 19 (.int x20) fun μ21 => gP (gfld μ21 b0 0 21) fun i22 => gaQ μ21 6 i22 a1 fun o23 => gnn o23 fun i24 => gI (gfld μ21 i24 9 3) fun x25 => gpf μ21 b0 0 8 (.int x25) fun μ26 => gI (gfld μ26 b0 0 19) fun x27 => some (some (.int x27), μ26)))
set_option maxHeartbeats 4000000 in
theorem wX0_on (l : Launch) (Γ : gG) (ad : Nat → Nat) (μ0 : gM) (b0 : Nat) (a1 : Int32) (r : Option Value × gM) (hf : fX0_on μ0 b0 a1 = some r) : gMt0 l Γ yX0_on (ws_ yX0_on cX0_on 2 (some .int)) ({ frames := 2, cells := 0, slots := 0, locals := 47 } : Room) 0 0 ad μ0 [.ref (ad b0), .int a1] r := by
  intro sz
  refine g_start (maxL := 2) (ret := (some .int)) (by decide) rfl g_all (Nat.le_of_ble_eq_true rfl) ?_
  intro p e s m below meth c ls hr hlk hnm X h hl
  generalize gA ad μ0 sz = A at X h ⊢
  generalize ([.ref (ad b0), .int a1] : List Value).toArray = args at X ⊢
  have X : gX p m c cX0_on 2 s args "SandPiano" Γ A := X
  have hl : lv_has ls 2 [(0, .ref (ad b0)), (1, .int a1)] := hl
  show W p l e ({ frames := 2, cells := 0, slots := 0, locals := 47 } : Room) s m args below meth c s.heap [] 0 0 (MQ below (gQ0 Γ ad μ0.1 r A) args s 0 0 A) (F0 m 0 ls [])
  unfold fX0_on at hf
  refine lv_iload_n X.hx X.hb dX0_on_0 rfl (lv_at hl 1 rfl) ?_
  refine r_cSI (As := [.int a1]) (rest := []) X h hf (fun res hres => wX0_isKept l Γ ad _ a1 res hres) (va_cwS 1 X.hts (lw_S q807 q808 q82 q809) rfl rfl rfl (by decide +kernel) ⟨Nat.le_of_ble_eq_true rfl, Nat.le_of_ble_eq_true rfl⟩) rfl ⟨hl.1, Nat.le_of_ble_eq_true rfl, Nat.le_of_ble_eq_true rfl, Nat.le_of_ble_eq_true rfl⟩ rfl dX0_on_1 (fun x1 μ2 H locs hf h => ?_)
  refine lv_if_ne (tgt := 9) X.hx X.hb dX0_on_4 (by decide) (fun hc => ?_) (fun hc => ?_)
  · replace hf := gif_f hf hc
    clear hc
    refine lv_aload_n X.hx X.hb dX0_on_9 rfl (lv_at hl 0 rfl) ?_
    refine r_getP X h (ci := 0) (k := 21) (C := RX0) (T := TX0) (N := 36) rfl in_X0 (by decide) q163 rfl dX0_on_10 hf (fun i3 hf => ?_)
    refine lv_iload_n X.hx X.hb dX0_on_13 rfl (lv_at hl 1 rfl) ?_
    refine r_aald X h (t := 6) rfl rfl dX0_on_14 hf (fun o4 hf => ?_)
    refine r_ifnn (tgt := 24) X.hx X.hb dX0_on_15 (by decide) hf (fun hf => ?_) (fun hf => ?_)
    · refine lv_aload_n X.hx X.hb dX0_on_24 rfl (lv_at hl 0 rfl) ?_
      refine r_getP X h (ci := 0) (k := 10) (C := RX0) (T := TX0) (N := 36) rfl in_X0 (by decide) q152 rfl dX0_on_25 hf (fun i5 hf => ?_)
      refine lv_aload_n X.hx X.hb dX0_on_28 rfl (lv_at hl 0 rfl) ?_
      refine r_getP X h (ci := 0) (k := 21) (C := RX0) (T := TX0) (N := 36) rfl in_X0 (by decide) q163 rfl dX0_on_29 hf (fun i6 hf => ?_)
      refine lv_iload_n X.hx X.hb dX0_on_32 rfl (lv_at hl 1 rfl) ?_
      refine r_aald X h (t := 6) rfl rfl dX0_on_33 hf (fun o7 hf => ?_)
      refine r_nn hf (fun i8 hf => ?_)
      refine r_getNP X h (ci := 9) (k := 0) (C := RX9) (T := TX9) (N := 4) rfl in_X9 (by decide) 10 rfl rfl dX0_on_34 hf (fun i9 hf => ?_)
      refine r_cVV (As := [.ref (ad i9)]) (rest := []) (C := RX1) (T := TX1) (N := 1) X h hf (fun res hres => wX1_take l Γ ad _ i5 i9 res hres) rfl (cwV 1 X.hts (lw_V q832 q833 q834 q83 q835) rfl rfl rfl (by decide +kernel) ⟨Nat.le_of_ble_eq_true rfl, Nat.le_of_ble_eq_true rfl⟩) rfl ⟨hl.1, Nat.le_of_ble_eq_true rfl, Nat.le_of_ble_eq_true rfl, Nat.le_of_ble_eq_true rfl⟩ rfl dX0_on_37 (fun μ10 H locs hf h => ?_)
      refine lv_aload_n X.hx X.hb dX0_on_40 rfl (lv_at hl 0 rfl) ?_
      refine r_getP X h (ci := 0) (k := 21) (C := RX0) (T := TX0) (N := 36) rfl in_X0 (by decide) q163 rfl dX0_on_41 hf (fun i11 hf => ?_)
      refine lv_iload_n X.hx X.hb dX0_on_44 rfl (lv_at hl 1 rfl) ?_
      refine r_aald X h (t := 6) rfl rfl dX0_on_45 hf (fun o12 hf => ?_)
      refine r_nn hf (fun i13 hf => ?_)
      refine r_getNP X h (ci := 9) (k := 1) (C := RX9) (T := TX9) (N := 4) rfl in_X9 (by decide) 11 rfl rfl dX0_on_46 hf (fun i14 hf => ?_)
      refine lv_iconst (v := 0) X.hx X.hb dX0_on_49 (by decide) ?_
      refine lv_aload_n X.hx X.hb dX0_on_50 rfl (lv_at hl 0 rfl) ?_
      refine r_getP X h (ci := 0) (k := 20) (C := RX0) (T := TX0) (N := 36) rfl in_X0 (by decide) q162 rfl dX0_on_51 hf (fun i15 hf => ?_)
      refine lv_iconst (v := 0) X.hx X.hb dX0_on_54 (by decide) ?_
      refine lv_sipush (v := 540) X.hx X.hb dX0_on_55 (by decide) ?_
      refine r_copy X h hl.1 q417 (Nat.le_of_ble_eq_true rfl) (Nat.le_trans (m := 26) (Nat.le_of_ble_eq_true rfl) (Nat.le_of_ble_eq_true rfl)) dX0_on_58 hf (fun μ16 H locs hf h => ?_)
      refine lv_aload_n X.hx X.hb dX0_on_61 rfl (lv_at hl 0 rfl) ?_
      refine lv_aload_n X.hx X.hb dX0_on_62 rfl (lv_at hl 0 rfl) ?_
      refine r_getP X h (ci := 0) (k := 21) (C := RX0) (T := TX0) (N := 36) rfl in_X0 (by decide) q163 rfl dX0_on_63 hf (fun i17 hf => ?_)
      refine lv_iload_n X.hx X.hb dX0_on_66 rfl (lv_at hl 1 rfl) ?_
      refine r_aald X h (t := 6) rfl rfl dX0_on_67 hf (fun o18 hf => ?_)
      refine r_nn hf (fun i19 hf => ?_)
      refine r_getNI X h (ci := 9) (k := 2) (C := RX9) (T := TX9) (N := 4) rfl in_X9 (by decide) 12 rfl rfl dX0_on_68 hf (fun x20 hf => ?_)
      refine r_put X h (ci := 0) (k := 19) (C := RX0) (T := TX0) (N := 36) (ty0 := tyX0) (ty := .int) (v := .int x20) rfl in_X0 tyX0_ok nmX0 (by decide) q161 rfl rfl (by decide +kernel) rfl rfl (fun j hj => by cases hj) dX0_on_71 hf (fun μ21 H locs hf h => ?_)
      refine lv_aload_n X.hx X.hb dX0_on_74 rfl (lv_at hl 0 rfl) ?_
      refine lv_aload_n X.hx X.hb dX0_on_75 rfl (lv_at hl 0 rfl) ?_
      refine r_getP X h (ci := 0) (k := 21) (C := RX0) (T := TX0) (N := 36) rfl in_X0 (by decide) q163 rfl dX0_on_76 hf (fun i22 hf => ?_)
      refine lv_iload_n X.hx X.hb dX0_on_79 rfl (lv_at hl 1 rfl) ?_
      refine r_aald X h (t := 6) rfl rfl dX0_on_80 hf (fun o23 hf => ?_)
      refine r_nn hf (fun i24 hf => ?_)
      refine r_getNI X h (ci := 9) (k := 3) (C := RX9) (T := TX9) (N := 4) rfl in_X9 (by decide) 13 rfl rfl dX0_on_81 hf (fun x25 hf => ?_)
      refine r_put X h (ci := 0) (k := 8) (C := RX0) (T := TX0) (N := 36) (ty0 := tyX0) (ty := .int) (v := .int x25) rfl in_X0 tyX0_ok nmX0 (by decide) q150 rfl rfl (by decide +kernel) rfl rfl (fun j hj => by cases hj) dX0_on_84 hf (fun μ26 H locs hf h => ?_)
      refine lv_aload_n X.hx X.hb dX0_on_87 rfl (lv_at hl 0 rfl) ?_
      refine r_getI X h (ci := 0) (k := 19) (C := RX0) (T := TX0) (N := 36) rfl in_X0 (by decide) q161 rfl dX0_on_88 hf (fun x27 hf => ?_)
      exact r_ri X h hr hlk (Nat.le_of_ble_eq_true rfl) (Nat.le_of_ble_eq_true rfl) dX0_on_91 hf
    · refine lv_aload_n X.hx X.hb dX0_on_18 rfl (lv_at hl 0 rfl) ?_
      refine lv_iconst (v := 1) X.hx X.hb dX0_on_19 (by decide) ?_
      refine r_cVI (As := [.int 1]) (rest := []) (C := RX0) (T := TX0) (N := 36) X h hf (fun res hres => wX0_found l Γ ad _ b0 1 res hres) rfl (cwV 1 X.hts (lw_V q347 q349 qs2 q82 q350) rfl rfl rfl (by decide +kernel) ⟨Nat.le_of_ble_eq_true rfl, Nat.le_of_ble_eq_true rfl⟩) rfl ⟨hl.1, Nat.le_of_ble_eq_true rfl, Nat.le_of_ble_eq_true rfl, Nat.le_of_ble_eq_true rfl⟩ rfl dX0_on_20 (fun x28 μ29 H locs hf h => ?_)
      exact r_ri X h hr hlk (Nat.le_of_ble_eq_true rfl) (Nat.le_of_ble_eq_true rfl) dX0_on_23 hf
  · replace hf := gif_t hf hc
    clear hc
    refine lv_iconst (v := (-1)) X.hx X.hb dX0_on_7 (by decide) ?_
    exact r_ri X h hr hlk (Nat.le_of_ble_eq_true rfl) (Nat.le_of_ble_eq_true rfl) dX0_on_8 hf
/-! X0_piano -/
def fX0_piano_L60 (b0 : Nat) (kx82 : gM → gR) : Nat → Int32 → gM → gR
  | 0, _, _ => none
  | n16 + 1, x14, μ15 => if 9 ≤ x14 then (kx82 μ15) else (gP (gfld μ15 b0 0 10) fun i18 => gP (gfld μ15 i18 1 0) fun i19 => gsI μ15 0 i19 x14 0 fun μ20 => gnm (x14 + 1) fun x21 => fX0_piano_L60 b0 kx82 n16 x21 μ20)
set_option maxHeartbeats 4000000 in
theorem wX0_piano_L60 {p : Program} {e : Env} {s : State} {m : MethodId} {args : Array Value} {below : List Frame} {meth : Method} {c : Code} {Γ : gG} {A : Nat → Prop} {nz : Nat} {ad : Nat → Nat} {r : Option Value × gM} (l : Launch) (b0 : Nat) (kx82 : gM → gR) (X : gX p m c cX0_piano 3 s args "SandPiano" Γ A) (hr : meth.sig.returnType = (some .int)) (hlk : meth.locks = false) (hk82 : ∀  (μ : gM) (ad1 : Nat → Nat) (H : Heap) (locs : List Loc) (ls : Array Slot), (∀ i, i < nz → ad1 i = ad i) → kx82  μ = some r → gWd Γ A nz ad1 μ s.heap H locs → lv_has ls 3 [(0, .ref (ad1 b0))] → W p l e ({ frames := 5, cells := 7, slots := 21, locals := 112 } : Room) s m args below meth c H locs 0 0 (MQ below (gQ1 Γ ad nz r A) args s 7 21 A) (F0 m 82 ls [])) : ∀ (n16 : Nat) (x14 : Int32) (μ15 : gM) (ad17 : Nat → Nat) (H : Heap) (locs : List Loc) (ls : Array Slot), (∀ i, i < nz → ad17 i = ad i) → fX0_piano_L60 b0 kx82 n16 x14 μ15 = some r → gWd Γ A nz ad17 μ15 s.heap H locs → lv_has ls 3 [(0, .ref (ad17 b0)), (2, .int x14)] → W p l e ({ frames := 5, cells := 7, slots := 21, locals := 112 } : Room) s m args below meth c H locs 0 0 (MQ below (gQ1 Γ ad nz r A) args s 7 21 A) (F0 m 60 ls []) := by
  intro n16
  induction n16 with
  | zero =>
    intro x14 μ15 ad17 H locs ls hag hf h hl
    have hf : (none : gR) = some r := hf
    cases hf
  | succ n16 ih =>
    intro x14 μ15 ad17 H locs ls hag hf h hl
    rw [fX0_piano_L60] at hf
    refine lv_iload_n X.hx X.hb dX0_piano_60 rfl (lv_at hl 1 rfl) ?_
    refine lv_bipush (v := 9) X.hx X.hb dX0_piano_61 (by decide) ?_
    refine lv_icmp_ge (tgt := 82) X.hx X.hb dX0_piano_63 (by decide) (fun hc => ?_) (fun hc => ?_)
    · replace hf := gif_t hf hc
      clear hc
      exact hk82 _ _ _ _ _ hag hf h (lv_sub hl [0] rfl)
    · replace hf := gif_f hf hc
      clear hc
      refine lv_aload_n X.hx X.hb dX0_piano_66 rfl (lv_at hl 0 rfl) ?_
      refine r_getP X h (ci := 0) (k := 10) (C := RX0) (T := TX0) (N := 36) rfl in_X0 (by decide) q152 rfl dX0_piano_67 hf (fun i18 hf => ?_)
      refine r_getNP X h (ci := 1) (k := 0) (C := RX1) (T := TX1) (N := 1) rfl in_X1 (by decide) 8 rfl rfl dX0_piano_70 hf (fun i19 hf => ?_)
      refine lv_iload_n X.hx X.hb dX0_piano_73 rfl (lv_at hl 1 rfl) ?_
      refine lv_iconst (v := 0) X.hx X.hb dX0_piano_74 (by decide) ?_
      refine r_iast X h dX0_piano_75 hf (fun μ20 H locs hf h => ?_)
      refine r_nmk hf (fun x21 ex hf => ?_)
      refine lv_iinc (v := x21) (lv' := [(2, .int x21), (0, .ref (ad17 b0))]) X.hx X.hb dX0_piano_76 hl (k := 1) rfl (by rw [ex]; rfl) (by decide) rfl (fun ls hl => ?_)
      clear ex
      refine lv_goto (tgt := 60) X.hx X.hb dX0_piano_79 (by decide) ?_
      exact ih _ _ _ _ _ _ hag hf h (lv_sub hl [1, 0] rfl)
def fX0_piano_L84 (b0 : Nat) (kx141 : gM → gR) : Nat → Int32 → gM → gR
  | 0, _, _ => none
  | n26 + 1, x24, μ25 => gI (gfld μ25 b0 0 7) fun x28 => if x28 ≤ x24 then (kx141 μ25) else (gP (gfld μ25 b0 0 9) fun i29 => gP (gfld μ25 b0 0 15) fun i30 => gaI μ25 0 i30 x24 fun x31 => gP (gfld μ25 b0 0 16) fun i32 => gaI μ25 0 i32 x24 fun x33 => gP (gfld μ25 b0 0 18) fun i34 => gaI μ25 0 i34 x24 fun x35 => glv μ25 b0 <| glv μ25 i29 <| cP (fX0_newKey μ25 x31 x24 x33 x35) fun i36 μ37 => gik μ37 i36 <| gsQ μ37 5 i29 x24 (some i36) fun μ39 => gP (gfld μ39 b0 0 10) fun i40 => gP (gfld μ39 i40 1 0) fun i41 => gP (gfld μ39 b0 0 17) fun i42 => gaI μ39 0 i42 x24 fun x43 => gsI μ39 0 i41 x24 x43 fun μ44 => gnm (x24 + 1) fun x45 => fX0_piano_L84 b0 kx141 n26 x45 μ44)
set_option maxHeartbeats 4000000 in
theorem wX0_piano_L84 {p : Program} {e : Env} {s : State} {m : MethodId} {args : Array Value} {below : List Frame} {meth : Method} {c : Code} {Γ : gG} {A : Nat → Prop} {nz : Nat} {ad : Nat → Nat} {r : Option Value × gM} (l : Launch) (b0 : Nat) (kx141 : gM → gR) (X : gX p m c cX0_piano 3 s args "SandPiano" Γ A) (hr : meth.sig.returnType = (some .int)) (hlk : meth.locks = false) (hk141 : ∀  (μ : gM) (ad1 : Nat → Nat) (H : Heap) (locs : List Loc) (ls : Array Slot), (∀ i, i < nz → ad1 i = ad i) → kx141  μ = some r → gWd Γ A nz ad1 μ s.heap H locs → lv_has ls 3 [(0, .ref (ad1 b0))] → W p l e ({ frames := 5, cells := 7, slots := 21, locals := 112 } : Room) s m args below meth c H locs 7 21 (MQ below (gQ1 Γ ad nz r A) args s 7 21 A) (F0 m 141 ls [])) : ∀ (n26 : Nat) (kc ks : Nat) (x24 : Int32) (μ25 : gM) (ad27 : Nat → Nat) (H : Heap) (locs : List Loc) (ls : Array Slot), kc + n26 * 1 ≤ 7 → ks + n26 * 3 ≤ 21 → (∀ i, i < nz → ad27 i = ad i) → fX0_piano_L84 b0 kx141 n26 x24 μ25 = some r → gWd Γ A nz ad27 μ25 s.heap H locs → lv_has ls 3 [(0, .ref (ad27 b0)), (2, .int x24)] → W p l e ({ frames := 5, cells := 7, slots := 21, locals := 112 } : Room) s m args below meth c H locs kc ks (MQ below (gQ1 Γ ad nz r A) args s 7 21 A) (F0 m 84 ls []) := by
  intro n26
  induction n26 with
  | zero =>
    intro kc ks x24 μ25 ad27 H locs ls hkc hks hag hf h hl
    have hf : (none : gR) = some r := hf
    cases hf
  | succ n26 ih =>
    intro kc ks x24 μ25 ad27 H locs ls hkc hks hag hf h hl
    rw [fX0_piano_L84] at hf
    refine lv_iload_n X.hx X.hb dX0_piano_84 rfl (lv_at hl 1 rfl) ?_
    refine lv_aload_n X.hx X.hb dX0_piano_85 rfl (lv_at hl 0 rfl) ?_
    refine r_getI X h (ci := 0) (k := 7) (C := RX0) (T := TX0) (N := 36) rfl in_X0 (by decide) q149 rfl dX0_piano_86 hf (fun x28 hf => ?_)
    refine lv_icmp_ge (tgt := 141) X.hx X.hb dX0_piano_89 (by decide) (fun hc => ?_) (fun hc => ?_)
    · replace hf := gif_t hf hc
      clear hc
      refine W.widen (k := 7) (n := 21) ((by first | exact Nat.le_of_ble_eq_true rfl | omega | (dsimp only; omega))) ((by first | exact Nat.le_of_ble_eq_true rfl | omega | (dsimp only; omega))) ?_
      exact hk141 _ _ _ _ _ hag hf h (lv_sub hl [0] rfl)
    · replace hf := gif_f hf hc
      clear hc
      refine lv_aload_n X.hx X.hb dX0_piano_92 rfl (lv_at hl 0 rfl) ?_
      refine r_getP X h (ci := 0) (k := 9) (C := RX0) (T := TX0) (N := 36) rfl in_X0 (by decide) q151 rfl dX0_piano_93 hf (fun i29 hf => ?_)
      refine lv_iload_n X.hx X.hb dX0_piano_96 rfl (lv_at hl 1 rfl) ?_
      refine lv_aload_n X.hx X.hb dX0_piano_97 rfl (lv_at hl 0 rfl) ?_
      refine r_getP X h (ci := 0) (k := 15) (C := RX0) (T := TX0) (N := 36) rfl in_X0 (by decide) q157 rfl dX0_piano_98 hf (fun i30 hf => ?_)
      refine lv_iload_n X.hx X.hb dX0_piano_101 rfl (lv_at hl 1 rfl) ?_
      refine r_iald X h dX0_piano_102 hf (fun x31 hf => ?_)
      refine lv_iload_n X.hx X.hb dX0_piano_103 rfl (lv_at hl 1 rfl) ?_
      refine lv_aload_n X.hx X.hb dX0_piano_104 rfl (lv_at hl 0 rfl) ?_
      refine r_getP X h (ci := 0) (k := 16) (C := RX0) (T := TX0) (N := 36) rfl in_X0 (by decide) q158 rfl dX0_piano_105 hf (fun i32 hf => ?_)
      refine lv_iload_n X.hx X.hb dX0_piano_108 rfl (lv_at hl 1 rfl) ?_
      refine r_iald X h dX0_piano_109 hf (fun x33 hf => ?_)
      refine lv_aload_n X.hx X.hb dX0_piano_110 rfl (lv_at hl 0 rfl) ?_
      refine r_getP X h (ci := 0) (k := 18) (C := RX0) (T := TX0) (N := 36) rfl in_X0 (by decide) q160 rfl dX0_piano_111 hf (fun i34 hf => ?_)
      refine lv_iload_n X.hx X.hb dX0_piano_114 rfl (lv_at hl 1 rfl) ?_
      refine r_iald X h dX0_piano_115 hf (fun x35 hf => ?_)
      obtain ⟨⟨ek0, hek0⟩, hf⟩ := glv_some hf
      have hlt0 := (h.1 _ _ hek0).1
      clear hek0 ek0
      obtain ⟨⟨ek1, hek1⟩, hf⟩ := glv_some hf
      have hlt1 := (h.1 _ _ hek1).1
      clear hek1 ek1
      have hle := h.2.2.2
      refine r_cSP1 (As := [.int x31, .int x24, .int x33, .int x35]) (rest := [.int x24, .ref (ad27 i29)]) X h hf (fun res hres => wX0_newKey l Γ ad27 _ x31 x24 x33 x35 res hres) (va_cwS 4 X.hts (lw_S q477 q478 q82 q479) rfl rfl rfl (by decide +kernel) ⟨(by first | exact Nat.le_of_ble_eq_true rfl | omega | (dsimp only; omega)), (by first | exact Nat.le_of_ble_eq_true rfl | omega | (dsimp only; omega))⟩) rfl ⟨hl.1, Nat.le_of_ble_eq_true rfl, (by first | exact Nat.le_of_ble_eq_true rfl | omega | (dsimp only; omega)), (by first | exact Nat.le_of_ble_eq_true rfl | omega | (dsimp only; omega))⟩ rfl dX0_piano_116 (fun i36 ad38 μ37 H locs hf hag1 h => ?_)
      replace hl : lv_has ls 3 [(0, .ref (ad38 b0)), (2, .int x24)] := by rw [hag1 b0 hlt0]; exact hl
      replace hag : ∀ i, i < nz → ad38 i = ad i := fun i hi => (hag1 i (Nat.lt_of_lt_of_le hi hle)).trans (hag i hi)
      refine W.eq (g2 := F0 m 119 ls [.ref (ad38 i36), .int x24, .ref (ad38 i29)]) (by rw [hag1 i29 hlt1]) ?_
      clear hag1 hle hlt0 hlt1
      obtain ⟨hv, hf⟩ := gik_some hf
      refine r_astK X h hv dX0_piano_119 hf (fun μ39 H locs hf h => ?_)
      refine lv_aload_n X.hx X.hb dX0_piano_120 rfl (lv_at hl 0 rfl) ?_
      refine r_getP X h (ci := 0) (k := 10) (C := RX0) (T := TX0) (N := 36) rfl in_X0 (by decide) q152 rfl dX0_piano_121 hf (fun i40 hf => ?_)
      refine r_getNP X h (ci := 1) (k := 0) (C := RX1) (T := TX1) (N := 1) rfl in_X1 (by decide) 8 rfl rfl dX0_piano_124 hf (fun i41 hf => ?_)
      refine lv_iload_n X.hx X.hb dX0_piano_127 rfl (lv_at hl 1 rfl) ?_
      refine lv_aload_n X.hx X.hb dX0_piano_128 rfl (lv_at hl 0 rfl) ?_
      refine r_getP X h (ci := 0) (k := 17) (C := RX0) (T := TX0) (N := 36) rfl in_X0 (by decide) q159 rfl dX0_piano_129 hf (fun i42 hf => ?_)
      refine lv_iload_n X.hx X.hb dX0_piano_132 rfl (lv_at hl 1 rfl) ?_
      refine r_iald X h dX0_piano_133 hf (fun x43 hf => ?_)
      refine r_iast X h dX0_piano_134 hf (fun μ44 H locs hf h => ?_)
      refine r_nmk hf (fun x45 ex hf => ?_)
      refine lv_iinc (v := x45) (lv' := [(2, .int x45), (0, .ref (ad38 b0))]) X.hx X.hb dX0_piano_135 hl (k := 1) rfl (by rw [ex]; rfl) (by decide) rfl (fun ls hl => ?_)
      clear ex
      refine lv_goto (tgt := 84) X.hx X.hb dX0_piano_138 (by decide) ?_
      exact ih _ _ _ _ _ _ _ _ (by omega) (by omega) hag hf h (lv_sub hl [1, 0] rfl)
def fX0_piano_L148 (b0 : Nat) (kx166 : gM → gR) : Nat → Int32 → gM → gR
  | 0, _, _ => none
  | n51 + 1, x49, μ50 => if 3 ≤ x49 then (kx166 μ50) else (gP (gfld μ50 b0 0 21) fun i53 => gsQ μ50 6 i53 x49 none fun μ54 => gnm (x49 + 1) fun x55 => fX0_piano_L148 b0 kx166 n51 x55 μ54)
set_option maxHeartbeats 4000000 in
theorem wX0_piano_L148 {p : Program} {e : Env} {s : State} {m : MethodId} {args : Array Value} {below : List Frame} {meth : Method} {c : Code} {Γ : gG} {A : Nat → Prop} {nz : Nat} {ad : Nat → Nat} {r : Option Value × gM} (l : Launch) (b0 : Nat) (kx166 : gM → gR) (X : gX p m c cX0_piano 3 s args "SandPiano" Γ A) (hr : meth.sig.returnType = (some .int)) (hlk : meth.locks = false) (hk166 : ∀  (μ : gM) (ad1 : Nat → Nat) (H : Heap) (locs : List Loc) (ls : Array Slot), (∀ i, i < nz → ad1 i = ad i) → kx166  μ = some r → gWd Γ A nz ad1 μ s.heap H locs → lv_has ls 3 [(0, .ref (ad1 b0))] → W p l e ({ frames := 5, cells := 7, slots := 21, locals := 112 } : Room) s m args below meth c H locs 7 21 (MQ below (gQ1 Γ ad nz r A) args s 7 21 A) (F0 m 166 ls [])) : ∀ (n51 : Nat) (x49 : Int32) (μ50 : gM) (ad52 : Nat → Nat) (H : Heap) (locs : List Loc) (ls : Array Slot), (∀ i, i < nz → ad52 i = ad i) → fX0_piano_L148 b0 kx166 n51 x49 μ50 = some r → gWd Γ A nz ad52 μ50 s.heap H locs → lv_has ls 3 [(0, .ref (ad52 b0)), (2, .int x49)] → W p l e ({ frames := 5, cells := 7, slots := 21, locals := 112 } : Room) s m args below meth c H locs 7 21 (MQ below (gQ1 Γ ad nz r A) args s 7 21 A) (F0 m 148 ls []) := by
  intro n51
  induction n51 with
  | zero =>
    intro x49 μ50 ad52 H locs ls hag hf h hl
    have hf : (none : gR) = some r := hf
    cases hf
  | succ n51 ih =>
    intro x49 μ50 ad52 H locs ls hag hf h hl
    rw [fX0_piano_L148] at hf
    refine lv_iload_n X.hx X.hb dX0_piano_148 rfl (lv_at hl 1 rfl) ?_
    refine lv_iconst (v := 3) X.hx X.hb dX0_piano_149 (by decide) ?_
    refine lv_icmp_ge (tgt := 166) X.hx X.hb dX0_piano_150 (by decide) (fun hc => ?_) (fun hc => ?_)
    · replace hf := gif_t hf hc
      clear hc
      exact hk166 _ _ _ _ _ hag hf h (lv_sub hl [0] rfl)
    · replace hf := gif_f hf hc
      clear hc
      refine lv_aload_n X.hx X.hb dX0_piano_153 rfl (lv_at hl 0 rfl) ?_
      refine r_getP X h (ci := 0) (k := 21) (C := RX0) (T := TX0) (N := 36) rfl in_X0 (by decide) q163 rfl dX0_piano_154 hf (fun i53 hf => ?_)
      refine lv_iload_n X.hx X.hb dX0_piano_157 rfl (lv_at hl 1 rfl) ?_
      refine lv_null X.hx X.hb dX0_piano_158 ?_
      refine r_astN X h (t := 6) rfl rfl dX0_piano_159 hf (fun μ54 H locs hf h => ?_)
      refine r_nmk hf (fun x55 ex hf => ?_)
      refine lv_iinc (v := x55) (lv' := [(2, .int x55), (0, .ref (ad52 b0))]) X.hx X.hb dX0_piano_160 hl (k := 1) rfl (by rw [ex]; rfl) (by decide) rfl (fun ls hl => ?_)
      clear ex
      refine lv_goto (tgt := 148) X.hx X.hb dX0_piano_163 (by decide) ?_
      exact ih _ _ _ _ _ _ hag hf h (lv_sub hl [1, 0] rfl)
def fX0_piano (μ0 : gM) (b0 : Nat) (a1 : Int32) : gR := cI (fX0_isText μ0 a1) fun x1 μ2 => if x1 = 0 then (some (some (.int (-1)), μ2)) else (gP (gfld μ2 b0 0 6) fun i3 => gaQ μ2 4 i3 a1 fun o4 => gnu o4 (gis μ2 b0 0 <| cI (fX0_found μ2 b0 1) fun x59 μ60 => some (some (.int x59), μ60)) (gP (gfld μ2 b0 0 6) fun i5 => gaQ μ2 4 i5 a1 fun o6 => gnn o6 fun i7 => gis μ2 b0 0 <| cI (fX0_goesOn μ2 b0 i7) fun x8 μ9 => if x8 = (-9) then (gI (gfld μ9 b0 0 14) fun x10 => gpf μ9 b0 0 7 (.int x10) fun μ11 => gI (gfld μ11 b0 0 13) fun x12 => gpf μ11 b0 0 8 (.int x12) fun μ13 => fX0_piano_L60 b0 (fun (μ22 : gM) => fX0_piano_L84 b0 (fun (μ46 : gM) => gpf μ46 b0 0 19 (.int 0) fun μ48 => fX0_piano_L148 b0 (fun (μ56 : gM) => gI (gfld μ56 b0 0 7) fun x58 => some (some (.int x58), μ56)) 10000 0 μ48) 7 0 μ22) 10000 0 μ13) else (some (some (.int (-4)), μ9))))
set_option maxHeartbeats 4000000 in
theorem wX0_piano (l : Launch) (Γ : gG) (ad : Nat → Nat) (μ0 : gM) (b0 : Nat) (a1 : Int32) (r : Option Value × gM) (hf : fX0_piano μ0 b0 a1 = some r) : gMt1 l Γ yX0_piano (ws_ yX0_piano cX0_piano 3 (some .int)) ({ frames := 5, cells := 7, slots := 21, locals := 112 } : Room) 7 21 ad μ0 [.ref (ad b0), .int a1] r := by
  intro sz
  refine g_start (maxL := 3) (ret := (some .int)) (by decide) rfl g_all (Nat.le_of_ble_eq_true rfl) ?_
  intro p e s m below meth c ls hr hlk hnm X h hl
  generalize gA ad μ0 sz = A at X h ⊢
  generalize ([.ref (ad b0), .int a1] : List Value).toArray = args at X ⊢
  have X : gX p m c cX0_piano 3 s args "SandPiano" Γ A := X
  have hl : lv_has ls 3 [(0, .ref (ad b0)), (1, .int a1)] := hl
  show W p l e ({ frames := 5, cells := 7, slots := 21, locals := 112 } : Room) s m args below meth c s.heap [] 0 0 (MQ below (gQ1 Γ ad μ0.1 r A) args s 7 21 A) (F0 m 0 ls [])
  unfold fX0_piano at hf
  have hag : ∀ i, i < μ0.1 → ad i = ad i := fun _ _ => rfl
  refine lv_iload_n X.hx X.hb dX0_piano_0 rfl (lv_at hl 1 rfl) ?_
  refine r_cSI (As := [.int a1]) (rest := []) X h hf (fun res hres => wX0_isText l Γ ad _ a1 res hres) (va_cwS 1 X.hts (lw_S q442 q443 q82 q444) rfl rfl rfl (by decide +kernel) ⟨Nat.le_of_ble_eq_true rfl, Nat.le_of_ble_eq_true rfl⟩) rfl ⟨hl.1, Nat.le_of_ble_eq_true rfl, Nat.le_of_ble_eq_true rfl, Nat.le_of_ble_eq_true rfl⟩ rfl dX0_piano_1 (fun x1 μ2 H locs hf h => ?_)
  refine lv_if_ne (tgt := 9) X.hx X.hb dX0_piano_4 (by decide) (fun hc => ?_) (fun hc => ?_)
  · replace hf := gif_f hf hc
    clear hc
    refine lv_aload_n X.hx X.hb dX0_piano_9 rfl (lv_at hl 0 rfl) ?_
    refine r_getP X h (ci := 0) (k := 6) (C := RX0) (T := TX0) (N := 36) rfl in_X0 (by decide) q147 rfl dX0_piano_10 hf (fun i3 hf => ?_)
    refine lv_iload_n X.hx X.hb dX0_piano_13 rfl (lv_at hl 1 rfl) ?_
    refine r_aald X h (t := 4) rfl rfl dX0_piano_14 hf (fun o4 hf => ?_)
    refine r_ifnn (tgt := 24) X.hx X.hb dX0_piano_15 (by decide) hf (fun hf => ?_) (fun hf => ?_)
    · refine lv_aload_n X.hx X.hb dX0_piano_24 rfl (lv_at hl 0 rfl) ?_
      refine lv_aload_n X.hx X.hb dX0_piano_25 rfl (lv_at hl 0 rfl) ?_
      refine r_getP X h (ci := 0) (k := 6) (C := RX0) (T := TX0) (N := 36) rfl in_X0 (by decide) q147 rfl dX0_piano_26 hf (fun i5 hf => ?_)
      refine lv_iload_n X.hx X.hb dX0_piano_29 rfl (lv_at hl 1 rfl) ?_
      refine r_aald X h (t := 4) rfl rfl dX0_piano_30 hf (fun o6 hf => ?_)
      refine r_nn hf (fun i7 hf => ?_)
      refine r_cVI (As := [.ref (ad i7)]) (rest := []) (C := RX0) (T := TX0) (N := 36) X h hf (fun res hres => wX0_goesOn l Γ ad _ b0 i7 res hres) rfl (cwV 1 X.hts (lw_V q453 q455 qs4 q82 q456) rfl rfl rfl (by decide +kernel) ⟨Nat.le_of_ble_eq_true rfl, Nat.le_of_ble_eq_true rfl⟩) rfl ⟨hl.1, Nat.le_of_ble_eq_true rfl, Nat.le_of_ble_eq_true rfl, Nat.le_of_ble_eq_true rfl⟩ rfl dX0_piano_31 (fun x8 μ9 H locs hf h => ?_)
      refine lv_bipush (v := (-9)) X.hx X.hb dX0_piano_34 (by decide) ?_
      refine lv_icmp_eq (tgt := 42) X.hx X.hb dX0_piano_36 (by decide) (fun hc => ?_) (fun hc => ?_)
      · replace hf := gif_t hf hc
        clear hc
        refine lv_aload_n X.hx X.hb dX0_piano_42 rfl (lv_at hl 0 rfl) ?_
        refine lv_aload_n X.hx X.hb dX0_piano_43 rfl (lv_at hl 0 rfl) ?_
        refine r_getI X h (ci := 0) (k := 14) (C := RX0) (T := TX0) (N := 36) rfl in_X0 (by decide) q156 rfl dX0_piano_44 hf (fun x10 hf => ?_)
        refine r_put X h (ci := 0) (k := 7) (C := RX0) (T := TX0) (N := 36) (ty0 := tyX0) (ty := .int) (v := .int x10) rfl in_X0 tyX0_ok nmX0 (by decide) q149 rfl rfl (by decide +kernel) rfl rfl (fun j hj => by cases hj) dX0_piano_47 hf (fun μ11 H locs hf h => ?_)
        refine lv_aload_n X.hx X.hb dX0_piano_50 rfl (lv_at hl 0 rfl) ?_
        refine lv_aload_n X.hx X.hb dX0_piano_51 rfl (lv_at hl 0 rfl) ?_
        refine r_getI X h (ci := 0) (k := 13) (C := RX0) (T := TX0) (N := 36) rfl in_X0 (by decide) q155 rfl dX0_piano_52 hf (fun x12 hf => ?_)
        refine r_put X h (ci := 0) (k := 8) (C := RX0) (T := TX0) (N := 36) (ty0 := tyX0) (ty := .int) (v := .int x12) rfl in_X0 tyX0_ok nmX0 (by decide) q150 rfl rfl (by decide +kernel) rfl rfl (fun j hj => by cases hj) dX0_piano_55 hf (fun μ13 H locs hf h => ?_)
        refine lv_iconst (v := 0) X.hx X.hb dX0_piano_58 (by decide) ?_
        refine lv_istore_n (lv' := [(2, .int 0), (0, .ref (ad b0)), (1, .int a1)]) X.hx X.hb dX0_piano_59 rfl hl (by decide) rfl (fun ls hl => ?_)
        refine wX0_piano_L60 l b0 _ X hr hlk (fun μ22 ad23 H locs ls hag hf h hl => ?_) 10000 _ _ _ _ _ _ hag hf h (lv_sub hl [1, 0] rfl)
        refine lv_iconst (v := 0) X.hx X.hb dX0_piano_82 (by decide) ?_
        refine lv_istore_n (lv' := [(2, .int 0), (0, .ref (ad23 b0))]) X.hx X.hb dX0_piano_83 rfl hl (by decide) rfl (fun ls hl => ?_)
        refine wX0_piano_L84 l b0 _ X hr hlk (fun μ46 ad47 H locs ls hag hf h hl => ?_) 7 0 0 _ _ _ _ _ _ (Nat.le_of_ble_eq_true rfl) (Nat.le_of_ble_eq_true rfl) hag hf h (lv_sub hl [1, 0] rfl)
        refine lv_aload_n X.hx X.hb dX0_piano_141 rfl (lv_at hl 0 rfl) ?_
        refine lv_iconst (v := 0) X.hx X.hb dX0_piano_142 (by decide) ?_
        refine r_put X h (ci := 0) (k := 19) (C := RX0) (T := TX0) (N := 36) (ty0 := tyX0) (ty := .int) (v := .int 0) rfl in_X0 tyX0_ok nmX0 (by decide) q161 rfl rfl (by decide +kernel) rfl rfl (fun j hj => by cases hj) dX0_piano_143 hf (fun μ48 H locs hf h => ?_)
        refine lv_iconst (v := 0) X.hx X.hb dX0_piano_146 (by decide) ?_
        refine lv_istore_n (lv' := [(2, .int 0), (0, .ref (ad47 b0))]) X.hx X.hb dX0_piano_147 rfl hl (by decide) rfl (fun ls hl => ?_)
        refine wX0_piano_L148 l b0 _ X hr hlk (fun μ56 ad57 H locs ls hag hf h hl => ?_) 10000 _ _ _ _ _ _ hag hf h (lv_sub hl [1, 0] rfl)
        refine lv_aload_n X.hx X.hb dX0_piano_166 rfl (lv_at hl 0 rfl) ?_
        refine r_getI X h (ci := 0) (k := 7) (C := RX0) (T := TX0) (N := 36) rfl in_X0 (by decide) q149 rfl dX0_piano_167 hf (fun x58 hf => ?_)
        exact r_ri1 X h hag hr hlk (Nat.le_of_ble_eq_true rfl) (Nat.le_of_ble_eq_true rfl) dX0_piano_170 hf
      · replace hf := gif_f hf hc
        clear hc
        refine lv_bipush (v := (-4)) X.hx X.hb dX0_piano_39 (by decide) ?_
        exact r_ri1 X h hag hr hlk (Nat.le_of_ble_eq_true rfl) (Nat.le_of_ble_eq_true rfl) dX0_piano_41 hf
    · refine lv_aload_n X.hx X.hb dX0_piano_18 rfl (lv_at hl 0 rfl) ?_
      refine lv_iconst (v := 1) X.hx X.hb dX0_piano_19 (by decide) ?_
      refine r_cVI (As := [.int 1]) (rest := []) (C := RX0) (T := TX0) (N := 36) X h hf (fun res hres => wX0_found l Γ ad _ b0 1 res hres) rfl (cwV 1 X.hts (lw_V q347 q349 qs2 q82 q350) rfl rfl rfl (by decide +kernel) ⟨Nat.le_of_ble_eq_true rfl, Nat.le_of_ble_eq_true rfl⟩) rfl ⟨hl.1, Nat.le_of_ble_eq_true rfl, Nat.le_of_ble_eq_true rfl, Nat.le_of_ble_eq_true rfl⟩ rfl dX0_piano_20 (fun x59 μ60 H locs hf h => ?_)
      exact r_ri1 X h hag hr hlk (Nat.le_of_ble_eq_true rfl) (Nat.le_of_ble_eq_true rfl) dX0_piano_23 hf
  · replace hf := gif_t hf hc
    clear hc
    refine lv_iconst (v := (-1)) X.hx X.hb dX0_piano_7 (by decide) ?_
    exact r_ri1 X h hag hr hlk (Nat.le_of_ble_eq_true rfl) (Nat.le_of_ble_eq_true rfl) dX0_piano_8 hf
