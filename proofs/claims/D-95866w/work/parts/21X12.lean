set_option maxRecDepth 100000
/-! X0_storm -/
def fX0_storm (μ0 : gM) (b0 : Nat) (a1 : Int32) : gR := cI (fX0_isIn μ0 a1 0 1) fun x1 μ2 => if x1 = 0 then (some (some (.int (-1)), μ2)) else (gI (gfld μ2 b0 0 7) fun x3 => if x3 = 0 then (some (some (.int (-4)), μ2)) else (gI (gfld μ2 b0 0 19) fun x4 => if x4 = 60 then (some (some (.int (-2)), μ2)) else (gis μ2 b0 0 <| cV (fX0_note μ2 b0) fun μ5 => gjn (fun (x6 : Int32) (μ7 : gM) => gP (gfld μ7 b0 0 10) fun i9 => gis μ7 i9 1 <| cI (fX1_move μ7 i9 x6 6 1048576) fun x10 μ11 => gP (gfld μ11 b0 0 10) fun i12 => gP (gfld μ11 i12 1 0) fun i13 => gP (gfld μ11 b0 0 10) fun i14 => gP (gfld μ11 i14 1 0) fun i15 => gI (gfld μ11 b0 0 7) fun x16 => gcp μ11 i13 (1 - a1) i15 a1 (x16 - 1) fun μ17 => gP (gfld μ17 b0 0 10) fun i18 => gP (gfld μ17 i18 1 0) fun i19 => gI (gfld μ17 b0 0 7) fun x20 => gsI μ17 0 i19 ((x20 - 1) - x6) 0 fun μ21 => some (some (.int x10), μ21)) fun j8 => if a1 = 0 then (j8 0 μ5) else (gI (gfld μ5 b0 0 7) fun x22 => j8 (x22 - 1) μ5))))
set_option maxHeartbeats 4000000 in
theorem wX0_storm (l : Launch) (Γ : gG) (ad : Nat → Nat) (μ0 : gM) (b0 : Nat) (a1 : Int32) (r : Option Value × gM) (hf : fX0_storm μ0 b0 a1 = some r) : gMt0 l Γ yX0_storm (ws_ yX0_storm cX0_storm 4 (some .int)) ({ frames := 2, cells := 0, slots := 0, locals := 46 } : Room) 0 0 ad μ0 [.ref (ad b0), .int a1] r := by
  intro sz
  refine g_start (maxL := 4) (ret := (some .int)) (by decide) rfl g_all (Nat.le_of_ble_eq_true rfl) ?_
  intro p e s m below meth c ls hr hlk hnm X h hl
  generalize gA ad μ0 sz = A at X h ⊢
  generalize ([.ref (ad b0), .int a1] : List Value).toArray = args at X ⊢
  have X : gX p m c cX0_storm 4 s args "SandPiano" Γ A := X
  have hl : lv_has ls 4 [(0, .ref (ad b0)), (1, .int a1)] := hl
  show W p l e ({ frames := 2, cells := 0, slots := 0, locals := 46 } : Room) s m args below meth c s.heap [] 0 0 (MQ below (gQ0 Γ ad μ0.1 r A) args s 0 0 A) (F0 m 0 ls [])
  unfold fX0_storm at hf
  refine lv_iload_n X.hx X.hb dX0_storm_0 rfl (lv_at hl 1 rfl) ?_
  refine lv_iconst (v := 0) X.hx X.hb dX0_storm_1 (by decide) ?_
  refine lv_iconst (v := 1) X.hx X.hb dX0_storm_2 (by decide) ?_
  refine r_cSI (As := [.int a1, .int 0, .int 1]) (rest := []) X h hf (fun res hres => wX0_isIn l Γ ad _ a1 0 1 res hres) (va_cwS 3 X.hts (lw_S q344 q345 q82 q346) rfl rfl rfl (by decide +kernel) ⟨Nat.le_of_ble_eq_true rfl, Nat.le_of_ble_eq_true rfl⟩) rfl ⟨hl.1, Nat.le_of_ble_eq_true rfl, Nat.le_of_ble_eq_true rfl, Nat.le_of_ble_eq_true rfl⟩ rfl dX0_storm_3 (fun x1 μ2 H locs hf h => ?_)
  refine lv_if_ne (tgt := 11) X.hx X.hb dX0_storm_6 (by decide) (fun hc => ?_) (fun hc => ?_)
  · replace hf := gif_f hf hc
    clear hc
    refine lv_aload_n X.hx X.hb dX0_storm_11 rfl (lv_at hl 0 rfl) ?_
    refine r_getI X h (ci := 0) (k := 7) (C := RX0) (T := TX0) (N := 36) rfl in_X0 (by decide) q149 rfl dX0_storm_12 hf (fun x3 hf => ?_)
    refine lv_if_ne (tgt := 21) X.hx X.hb dX0_storm_15 (by decide) (fun hc => ?_) (fun hc => ?_)
    · replace hf := gif_f hf hc
      clear hc
      refine lv_aload_n X.hx X.hb dX0_storm_21 rfl (lv_at hl 0 rfl) ?_
      refine r_getI X h (ci := 0) (k := 19) (C := RX0) (T := TX0) (N := 36) rfl in_X0 (by decide) q161 rfl dX0_storm_22 hf (fun x4 hf => ?_)
      refine lv_bipush (v := 60) X.hx X.hb dX0_storm_25 (by decide) ?_
      refine lv_icmp_ne (tgt := 33) X.hx X.hb dX0_storm_27 (by decide) (fun hc => ?_) (fun hc => ?_)
      · replace hf := gif_f hf hc
        clear hc
        refine lv_aload_n X.hx X.hb dX0_storm_33 rfl (lv_at hl 0 rfl) ?_
        refine r_cVV (As := []) (rest := []) (C := RX0) (T := TX0) (N := 36) X h hf (fun res hres => wX0_note l Γ ad _ b0 res hres) rfl (cwV 0 X.hts (lw_V q718 q720 qs13 q82 q721) rfl rfl rfl (by decide +kernel) ⟨Nat.le_of_ble_eq_true rfl, Nat.le_of_ble_eq_true rfl⟩) rfl ⟨hl.1, Nat.le_of_ble_eq_true rfl, Nat.le_of_ble_eq_true rfl, Nat.le_of_ble_eq_true rfl⟩ rfl dX0_storm_34 (fun μ5 H locs hf h => ?_)
        refine lv_iload_n X.hx X.hb dX0_storm_37 rfl (lv_at hl 1 rfl) ?_
        refine r_jn hf (fun j8 ej8 hf => ?_)
        have hj8 : ∀ (x6 : Int32) (μ7 : gM) (H : Heap) (locs : List Loc) (ls : Array Slot), j8 x6 μ7 = some r → gWd Γ A μ0.1 ad μ7 s.heap H locs → lv_has ls 4 [(0, .ref (ad b0)), (1, .int a1)] → W p l e ({ frames := 2, cells := 0, slots := 0, locals := 46 } : Room) s m args below meth c H locs 0 0 (MQ below (gQ0 Γ ad μ0.1 r A) args s 0 0 A) (F0 m 51 ls [.int x6]) := by
          intro x6 μ7 H locs ls hf h hl
          rw [ej8] at hf
          refine lv_istore_n (lv' := [(2, .int x6), (0, .ref (ad b0)), (1, .int a1)]) X.hx X.hb dX0_storm_51 rfl hl (by decide) rfl (fun ls hl => ?_)
          refine lv_aload_n X.hx X.hb dX0_storm_52 rfl (lv_at hl 1 rfl) ?_
          refine r_getP X h (ci := 0) (k := 10) (C := RX0) (T := TX0) (N := 36) rfl in_X0 (by decide) q152 rfl dX0_storm_53 hf (fun i9 hf => ?_)
          refine lv_iload_n X.hx X.hb dX0_storm_56 rfl (lv_at hl 0 rfl) ?_
          refine lv_bipush (v := 6) X.hx X.hb dX0_storm_57 (by decide) ?_
          refine r_ldcw X (v := 1048576) q784 dX0_storm_59 ?_
          refine r_cVI (As := [.int x6, .int 6, .int 1048576]) (rest := []) (C := RX1) (T := TX1) (N := 1) X h hf (fun res hres => wX1_move l Γ ad _ i9 x6 6 1048576 res hres) rfl (cwV 3 X.hts (lw_V q785 q738 q739 q83 q740) rfl rfl rfl (by decide +kernel) ⟨Nat.le_of_ble_eq_true rfl, Nat.le_of_ble_eq_true rfl⟩) rfl ⟨hl.1, Nat.le_of_ble_eq_true rfl, Nat.le_of_ble_eq_true rfl, Nat.le_of_ble_eq_true rfl⟩ rfl dX0_storm_62 (fun x10 μ11 H locs hf h => ?_)
          refine lv_istore_n (lv' := [(3, .int x10), (2, .int x6), (0, .ref (ad b0)), (1, .int a1)]) X.hx X.hb dX0_storm_65 rfl hl (by decide) rfl (fun ls hl => ?_)
          refine lv_aload_n X.hx X.hb dX0_storm_66 rfl (lv_at hl 2 rfl) ?_
          refine r_getP X h (ci := 0) (k := 10) (C := RX0) (T := TX0) (N := 36) rfl in_X0 (by decide) q152 rfl dX0_storm_67 hf (fun i12 hf => ?_)
          refine r_getNP X h (ci := 1) (k := 0) (C := RX1) (T := TX1) (N := 1) rfl in_X1 (by decide) 8 rfl rfl dX0_storm_70 hf (fun i13 hf => ?_)
          refine lv_iconst (v := 1) X.hx X.hb dX0_storm_73 (by decide) ?_
          refine lv_iload_n X.hx X.hb dX0_storm_74 rfl (lv_at hl 3 rfl) ?_
          refine lv_isub X.hx X.hb dX0_storm_75 ?_
          refine lv_aload_n X.hx X.hb dX0_storm_76 rfl (lv_at hl 2 rfl) ?_
          refine r_getP X h (ci := 0) (k := 10) (C := RX0) (T := TX0) (N := 36) rfl in_X0 (by decide) q152 rfl dX0_storm_77 hf (fun i14 hf => ?_)
          refine r_getNP X h (ci := 1) (k := 0) (C := RX1) (T := TX1) (N := 1) rfl in_X1 (by decide) 8 rfl rfl dX0_storm_80 hf (fun i15 hf => ?_)
          refine lv_iload_n X.hx X.hb dX0_storm_83 rfl (lv_at hl 3 rfl) ?_
          refine lv_aload_n X.hx X.hb dX0_storm_84 rfl (lv_at hl 2 rfl) ?_
          refine r_getI X h (ci := 0) (k := 7) (C := RX0) (T := TX0) (N := 36) rfl in_X0 (by decide) q149 rfl dX0_storm_85 hf (fun x16 hf => ?_)
          refine lv_iconst (v := 1) X.hx X.hb dX0_storm_88 (by decide) ?_
          refine lv_isub X.hx X.hb dX0_storm_89 ?_
          refine r_copy X h hl.1 q417 (Nat.le_of_ble_eq_true rfl) (Nat.le_trans (m := 26) (Nat.le_of_ble_eq_true rfl) (Nat.le_of_ble_eq_true rfl)) dX0_storm_90 hf (fun μ17 H locs hf h => ?_)
          refine lv_aload_n X.hx X.hb dX0_storm_93 rfl (lv_at hl 2 rfl) ?_
          refine r_getP X h (ci := 0) (k := 10) (C := RX0) (T := TX0) (N := 36) rfl in_X0 (by decide) q152 rfl dX0_storm_94 hf (fun i18 hf => ?_)
          refine r_getNP X h (ci := 1) (k := 0) (C := RX1) (T := TX1) (N := 1) rfl in_X1 (by decide) 8 rfl rfl dX0_storm_97 hf (fun i19 hf => ?_)
          refine lv_aload_n X.hx X.hb dX0_storm_100 rfl (lv_at hl 2 rfl) ?_
          refine r_getI X h (ci := 0) (k := 7) (C := RX0) (T := TX0) (N := 36) rfl in_X0 (by decide) q149 rfl dX0_storm_101 hf (fun x20 hf => ?_)
          refine lv_iconst (v := 1) X.hx X.hb dX0_storm_104 (by decide) ?_
          refine lv_isub X.hx X.hb dX0_storm_105 ?_
          refine lv_iload_n X.hx X.hb dX0_storm_106 rfl (lv_at hl 1 rfl) ?_
          refine lv_isub X.hx X.hb dX0_storm_107 ?_
          refine lv_iconst (v := 0) X.hx X.hb dX0_storm_108 (by decide) ?_
          refine r_iast X h dX0_storm_109 hf (fun μ21 H locs hf h => ?_)
          refine lv_iload_n X.hx X.hb dX0_storm_110 rfl (lv_at hl 0 rfl) ?_
          exact r_ri X h hr hlk (Nat.le_of_ble_eq_true rfl) (Nat.le_of_ble_eq_true rfl) dX0_storm_111 hf
        clear ej8
        refine lv_if_ne (tgt := 45) X.hx X.hb dX0_storm_38 (by decide) (fun hc => ?_) (fun hc => ?_)
        · replace hf := gif_f hf hc
          clear hc
          refine lv_aload_n X.hx X.hb dX0_storm_45 rfl (lv_at hl 0 rfl) ?_
          refine r_getI X h (ci := 0) (k := 7) (C := RX0) (T := TX0) (N := 36) rfl in_X0 (by decide) q149 rfl dX0_storm_46 hf (fun x22 hf => ?_)
          refine lv_iconst (v := 1) X.hx X.hb dX0_storm_49 (by decide) ?_
          refine lv_isub X.hx X.hb dX0_storm_50 ?_
          exact hj8 _ _ _ _ _ hf h (lv_sub hl [0, 1] rfl)
        · replace hf := gif_t hf hc
          clear hc
          refine lv_iconst (v := 0) X.hx X.hb dX0_storm_41 (by decide) ?_
          refine lv_goto (tgt := 51) X.hx X.hb dX0_storm_42 (by decide) ?_
          exact hj8 _ _ _ _ _ hf h (lv_sub hl [0, 1] rfl)
      · replace hf := gif_t hf hc
        clear hc
        refine lv_bipush (v := (-2)) X.hx X.hb dX0_storm_30 (by decide) ?_
        exact r_ri X h hr hlk (Nat.le_of_ble_eq_true rfl) (Nat.le_of_ble_eq_true rfl) dX0_storm_32 hf
    · replace hf := gif_t hf hc
      clear hc
      refine lv_bipush (v := (-4)) X.hx X.hb dX0_storm_18 (by decide) ?_
      exact r_ri X h hr hlk (Nat.le_of_ble_eq_true rfl) (Nat.le_of_ble_eq_true rfl) dX0_storm_20 hf
  · replace hf := gif_t hf hc
    clear hc
    refine lv_iconst (v := (-1)) X.hx X.hb dX0_storm_9 (by decide) ?_
    exact r_ri X h hr hlk (Nat.le_of_ble_eq_true rfl) (Nat.le_of_ble_eq_true rfl) dX0_storm_10 hf
/-! X0_strike -/
def fX0_strike_L44 (b0 : Nat) (x8 : Int32) (kx117 : Int32 → Int32 → gM → gR) : Nat → Int32 → Int32 → Int32 → gM → gR
  | 0, _, _, _, _ => none
  | n14 + 1, x10, x11, x12, μ13 => gI (gfld μ13 b0 0 7) fun x15 => if x15 ≤ x12 then (kx117 x10 x11 μ13) else (if x8 = 0 then (kx117 x10 x11 μ13) else (gis μ13 b0 0 <| cI (fX0_singsBy μ13 b0 x12) fun x16 μ17 => cI (fJ11_bitCount μ17 (x8 &&& x16)) fun x18 μ19 => gis μ19 b0 0 <| cI (fX0_singsBy μ19 b0 x12) fun x20 μ21 => cI (fJ11_bitCount μ21 (x8 &&& (x20 ^^^ (-1)))) fun x22 μ23 => cI (fJ10_max μ23 x18 x22) fun x24 μ25 => gjn (fun (x26 : Int32) (μ27 : gM) => cI (fJ10_min μ27 x11 x24) fun x29 μ30 => gnm (x12 + 1) fun x31 => fX0_strike_L44 b0 x8 kx117 n14 x26 x29 x31 μ30) fun j28 => if x11 ≤ x24 then (j28 x10 μ25) else (j28 x12 μ25)))
set_option maxHeartbeats 4000000 in
theorem wX0_strike_L44 {p : Program} {e : Env} {s : State} {m : MethodId} {args : Array Value} {below : List Frame} {meth : Method} {c : Code} {Γ : gG} {A : Nat → Prop} {nz : Nat} {ad : Nat → Nat} {r : Option Value × gM} (l : Launch) (b0 : Nat) (x8 : Int32) (kx117 : Int32 → Int32 → gM → gR) (X : gX p m c cX0_strike 8 s args "SandPiano" Γ A) (hr : meth.sig.returnType = (some .int)) (hlk : meth.locks = false) (hk117 : ∀ (x32 : Int32) (x33 : Int32) (μ : gM) (H : Heap) (locs : List Loc) (ls : Array Slot), kx117 x32 x33 μ = some r → gWd Γ A nz ad μ s.heap H locs → lv_has ls 8 [(0, .ref (ad b0)), (4, .int x32), (5, .int x33)] → W p l e ({ frames := 3, cells := 0, slots := 0, locals := 66 } : Room) s m args below meth c H locs 0 0 (MQ below (gQ0 Γ ad nz r A) args s 0 0 A) (F0 m 117 ls [])) : ∀ (n14 : Nat) (x10 : Int32) (x11 : Int32) (x12 : Int32) (μ13 : gM) (H : Heap) (locs : List Loc) (ls : Array Slot), fX0_strike_L44 b0 x8 kx117 n14 x10 x11 x12 μ13 = some r → gWd Γ A nz ad μ13 s.heap H locs → lv_has ls 8 [(0, .ref (ad b0)), (3, .int x8), (4, .int x10), (5, .int x11), (6, .int x12)] → W p l e ({ frames := 3, cells := 0, slots := 0, locals := 66 } : Room) s m args below meth c H locs 0 0 (MQ below (gQ0 Γ ad nz r A) args s 0 0 A) (F0 m 44 ls []) := by
  intro n14
  induction n14 with
  | zero =>
    intro x10 x11 x12 μ13 H locs ls hf h hl
    have hf : (none : gR) = some r := hf
    cases hf
  | succ n14 ih =>
    intro x10 x11 x12 μ13 H locs ls hf h hl
    rw [fX0_strike_L44] at hf
    refine lv_iload X.hx X.hb dX0_strike_44 (lv_at hl 4 rfl) ?_
    refine lv_aload_n X.hx X.hb dX0_strike_46 rfl (lv_at hl 0 rfl) ?_
    refine r_getI X h (ci := 0) (k := 7) (C := RX0) (T := TX0) (N := 36) rfl in_X0 (by decide) q149 rfl dX0_strike_47 hf (fun x15 hf => ?_)
    refine lv_icmp_ge (tgt := 117) X.hx X.hb dX0_strike_50 (by decide) (fun hc => ?_) (fun hc => ?_)
    · replace hf := gif_t hf hc
      clear hc
      exact hk117 _ _ _ _ _ _ hf h (lv_sub hl [0, 2, 3] rfl)
    · replace hf := gif_f hf hc
      clear hc
      refine lv_iload_n X.hx X.hb dX0_strike_53 rfl (lv_at hl 1 rfl) ?_
      refine lv_if_eq (tgt := 117) X.hx X.hb dX0_strike_54 (by decide) (fun hc => ?_) (fun hc => ?_)
      · replace hf := gif_t hf hc
        clear hc
        exact hk117 _ _ _ _ _ _ hf h (lv_sub hl [0, 2, 3] rfl)
      · replace hf := gif_f hf hc
        clear hc
        refine lv_iload_n X.hx X.hb dX0_strike_57 rfl (lv_at hl 1 rfl) ?_
        refine lv_aload_n X.hx X.hb dX0_strike_58 rfl (lv_at hl 0 rfl) ?_
        refine lv_iload X.hx X.hb dX0_strike_59 (lv_at hl 4 rfl) ?_
        refine r_cVI (As := [.int x12]) (rest := [.int x8]) (C := RX0) (T := TX0) (N := 36) X h hf (fun res hres => wX0_singsBy l Γ ad _ b0 x12 res hres) rfl (cwV 1 X.hts (lw_V q936 q938 qs30 q82 q939) rfl rfl rfl (by decide +kernel) ⟨Nat.le_of_ble_eq_true rfl, Nat.le_of_ble_eq_true rfl⟩) rfl ⟨hl.1, Nat.le_of_ble_eq_true rfl, Nat.le_of_ble_eq_true rfl, Nat.le_of_ble_eq_true rfl⟩ rfl dX0_strike_61 (fun x16 μ17 H locs hf h => ?_)
        refine lv_iand X.hx X.hb dX0_strike_64 ?_
        refine r_cSI (As := [.int (x8 &&& x16)]) (rest := []) X h hf (fun res hres => wJ11_bitCount l Γ ad _ (x8 &&& x16) res hres) (va_cwS 1 X.hts (lw_S q944 q705 q103 q706) rfl rfl rfl (by decide +kernel) ⟨Nat.le_of_ble_eq_true rfl, Nat.le_of_ble_eq_true rfl⟩) rfl ⟨hl.1, Nat.le_of_ble_eq_true rfl, Nat.le_of_ble_eq_true rfl, Nat.le_of_ble_eq_true rfl⟩ rfl dX0_strike_65 (fun x18 μ19 H locs hf h => ?_)
        refine lv_iload_n X.hx X.hb dX0_strike_68 rfl (lv_at hl 1 rfl) ?_
        refine lv_aload_n X.hx X.hb dX0_strike_69 rfl (lv_at hl 0 rfl) ?_
        refine lv_iload X.hx X.hb dX0_strike_70 (lv_at hl 4 rfl) ?_
        refine r_cVI (As := [.int x12]) (rest := [.int x8, .int x18]) (C := RX0) (T := TX0) (N := 36) X h hf (fun res hres => wX0_singsBy l Γ ad _ b0 x12 res hres) rfl (cwV 1 X.hts (lw_V q936 q938 qs30 q82 q939) rfl rfl rfl (by decide +kernel) ⟨Nat.le_of_ble_eq_true rfl, Nat.le_of_ble_eq_true rfl⟩) rfl ⟨hl.1, Nat.le_of_ble_eq_true rfl, Nat.le_of_ble_eq_true rfl, Nat.le_of_ble_eq_true rfl⟩ rfl dX0_strike_72 (fun x20 μ21 H locs hf h => ?_)
        refine lv_iconst (v := (-1)) X.hx X.hb dX0_strike_75 (by decide) ?_
        refine lv_ixor X.hx X.hb dX0_strike_76 ?_
        refine lv_iand X.hx X.hb dX0_strike_77 ?_
        refine r_cSI (As := [.int (x8 &&& (x20 ^^^ (-1)))]) (rest := [.int x18]) X h hf (fun res hres => wJ11_bitCount l Γ ad _ (x8 &&& (x20 ^^^ (-1))) res hres) (va_cwS 1 X.hts (lw_S q944 q705 q103 q706) rfl rfl rfl (by decide +kernel) ⟨Nat.le_of_ble_eq_true rfl, Nat.le_of_ble_eq_true rfl⟩) rfl ⟨hl.1, Nat.le_of_ble_eq_true rfl, Nat.le_of_ble_eq_true rfl, Nat.le_of_ble_eq_true rfl⟩ rfl dX0_strike_78 (fun x22 μ23 H locs hf h => ?_)
        refine r_cSI (As := [.int x18, .int x22]) (rest := []) X h hf (fun res hres => wJ10_max l Γ ad _ x18 x22 res hres) (va_cwS 2 X.hts (lw_S q945 q673 q102 q674) rfl rfl rfl (by decide +kernel) ⟨Nat.le_of_ble_eq_true rfl, Nat.le_of_ble_eq_true rfl⟩) rfl ⟨hl.1, Nat.le_of_ble_eq_true rfl, Nat.le_of_ble_eq_true rfl, Nat.le_of_ble_eq_true rfl⟩ rfl dX0_strike_81 (fun x24 μ25 H locs hf h => ?_)
        refine lv_istore (lv' := [(7, .int x24), (0, .ref (ad b0)), (3, .int x8), (4, .int x10), (5, .int x11), (6, .int x12)]) X.hx X.hb dX0_strike_84 hl (by decide) rfl (fun ls hl => ?_)
        refine lv_iload X.hx X.hb dX0_strike_86 (lv_at hl 0 rfl) ?_
        refine lv_iload X.hx X.hb dX0_strike_88 (lv_at hl 4 rfl) ?_
        refine r_jn hf (fun j28 ej28 hf => ?_)
        have hj28 : ∀ (x26 : Int32) (μ27 : gM) (H : Heap) (locs : List Loc) (ls : Array Slot), j28 x26 μ27 = some r → gWd Γ A nz ad μ27 s.heap H locs → lv_has ls 8 [(0, .ref (ad b0)), (3, .int x8), (5, .int x11), (6, .int x12), (7, .int x24)] → W p l e ({ frames := 3, cells := 0, slots := 0, locals := 66 } : Room) s m args below meth c H locs 0 0 (MQ below (gQ0 Γ ad nz r A) args s 0 0 A) (F0 m 100 ls [.int x26]) := by
          intro x26 μ27 H locs ls hf h hl
          rw [ej28] at hf
          refine lv_istore (lv' := [(4, .int x26), (0, .ref (ad b0)), (3, .int x8), (5, .int x11), (6, .int x12), (7, .int x24)]) X.hx X.hb dX0_strike_100 hl (by decide) rfl (fun ls hl => ?_)
          refine lv_iload X.hx X.hb dX0_strike_102 (lv_at hl 3 rfl) ?_
          refine lv_iload X.hx X.hb dX0_strike_104 (lv_at hl 5 rfl) ?_
          refine r_cSI (As := [.int x11, .int x24]) (rest := []) X h hf (fun res hres => wJ10_min l Γ ad _ x11 x24 res hres) (va_cwS 2 X.hts (lw_S q946 q655 q102 q656) rfl rfl rfl (by decide +kernel) ⟨Nat.le_of_ble_eq_true rfl, Nat.le_of_ble_eq_true rfl⟩) rfl ⟨hl.1, Nat.le_of_ble_eq_true rfl, Nat.le_of_ble_eq_true rfl, Nat.le_of_ble_eq_true rfl⟩ rfl dX0_strike_106 (fun x29 μ30 H locs hf h => ?_)
          refine lv_istore (lv' := [(5, .int x29), (4, .int x26), (0, .ref (ad b0)), (3, .int x8), (6, .int x12), (7, .int x24)]) X.hx X.hb dX0_strike_109 hl (by decide) rfl (fun ls hl => ?_)
          refine r_nmk hf (fun x31 ex hf => ?_)
          refine lv_iinc (v := x31) (lv' := [(6, .int x31), (5, .int x29), (4, .int x26), (0, .ref (ad b0)), (3, .int x8), (7, .int x24)]) X.hx X.hb dX0_strike_111 hl (k := 4) rfl (by rw [ex]; rfl) (by decide) rfl (fun ls hl => ?_)
          clear ex
          refine lv_goto (tgt := 44) X.hx X.hb dX0_strike_114 (by decide) ?_
          exact ih _ _ _ _ _ _ _ hf h (lv_sub hl [3, 4, 2, 1, 0] rfl)
        clear ej28
        refine lv_icmp_ge (tgt := 98) X.hx X.hb dX0_strike_90 (by decide) (fun hc => ?_) (fun hc => ?_)
        · replace hf := gif_t hf hc
          clear hc
          refine lv_iload X.hx X.hb dX0_strike_98 (lv_at hl 3 rfl) ?_
          exact hj28 _ _ _ _ _ hf h (lv_sub hl [1, 2, 4, 5, 0] rfl)
        · replace hf := gif_f hf hc
          clear hc
          refine lv_iload X.hx X.hb dX0_strike_93 (lv_at hl 5 rfl) ?_
          refine lv_goto (tgt := 100) X.hx X.hb dX0_strike_95 (by decide) ?_
          exact hj28 _ _ _ _ _ hf h (lv_sub hl [1, 2, 4, 5, 0] rfl)
def fX0_strike (μ0 : gM) (b0 : Nat) (a1 : Int32) : gR := cI (fX0_isRow μ0 a1) fun x1 μ2 => if x1 = 0 then (some (some (.int (-1)), μ2)) else (gis μ2 b0 0 <| cI (fX0_askedSong μ2 b0 a1) fun x3 μ4 => if 0 ≤ x3 then (gP (gfld μ4 b0 0 5) fun i5 => gaQ μ4 3 i5 a1 fun o6 => gnn o6 fun i7 => gis μ4 b0 0 <| cI (fX0_ringSet μ4 b0 i7) fun x8 μ9 => fX0_strike_L44 b0 x8 (fun (x34 : Int32) (x35 : Int32) (μ36 : gM) => if x34 = (-9) then (some (some (.int (-9)), μ36)) else (gis μ36 b0 0 <| cI (fX0_ask μ36 b0 x35 x34) fun x37 μ38 => some (some (.int x37), μ38))) 10000 (-9) 1048576 0 μ9) else (some (some (.int x3), μ4)))
set_option maxHeartbeats 4000000 in
theorem wX0_strike (l : Launch) (Γ : gG) (ad : Nat → Nat) (μ0 : gM) (b0 : Nat) (a1 : Int32) (r : Option Value × gM) (hf : fX0_strike μ0 b0 a1 = some r) : gMt0 l Γ yX0_strike (ws_ yX0_strike cX0_strike 8 (some .int)) ({ frames := 3, cells := 0, slots := 0, locals := 66 } : Room) 0 0 ad μ0 [.ref (ad b0), .int a1] r := by
  intro sz
  refine g_start (maxL := 8) (ret := (some .int)) (by decide) rfl g_all (Nat.le_of_ble_eq_true rfl) ?_
  intro p e s m below meth c ls hr hlk hnm X h hl
  generalize gA ad μ0 sz = A at X h ⊢
  generalize ([.ref (ad b0), .int a1] : List Value).toArray = args at X ⊢
  have X : gX p m c cX0_strike 8 s args "SandPiano" Γ A := X
  have hl : lv_has ls 8 [(0, .ref (ad b0)), (1, .int a1)] := hl
  show W p l e ({ frames := 3, cells := 0, slots := 0, locals := 66 } : Room) s m args below meth c s.heap [] 0 0 (MQ below (gQ0 Γ ad μ0.1 r A) args s 0 0 A) (F0 m 0 ls [])
  unfold fX0_strike at hf
  refine lv_iload_n X.hx X.hb dX0_strike_0 rfl (lv_at hl 1 rfl) ?_
  refine r_cSI (As := [.int a1]) (rest := []) X h hf (fun res hres => wX0_isRow l Γ ad _ a1 res hres) (va_cwS 1 X.hts (lw_S q341 q342 q82 q343) rfl rfl rfl (by decide +kernel) ⟨Nat.le_of_ble_eq_true rfl, Nat.le_of_ble_eq_true rfl⟩) rfl ⟨hl.1, Nat.le_of_ble_eq_true rfl, Nat.le_of_ble_eq_true rfl, Nat.le_of_ble_eq_true rfl⟩ rfl dX0_strike_1 (fun x1 μ2 H locs hf h => ?_)
  refine lv_if_ne (tgt := 9) X.hx X.hb dX0_strike_4 (by decide) (fun hc => ?_) (fun hc => ?_)
  · replace hf := gif_f hf hc
    clear hc
    refine lv_aload_n X.hx X.hb dX0_strike_9 rfl (lv_at hl 0 rfl) ?_
    refine lv_iload_n X.hx X.hb dX0_strike_10 rfl (lv_at hl 1 rfl) ?_
    refine r_cVI (As := [.int a1]) (rest := []) (C := RX0) (T := TX0) (N := 36) X h hf (fun res hres => wX0_askedSong l Γ ad _ b0 a1 res hres) rfl (cwV 1 X.hts (lw_V q928 q930 qs28 q82 q931) rfl rfl rfl (by decide +kernel) ⟨Nat.le_of_ble_eq_true rfl, Nat.le_of_ble_eq_true rfl⟩) rfl ⟨hl.1, Nat.le_of_ble_eq_true rfl, Nat.le_of_ble_eq_true rfl, Nat.le_of_ble_eq_true rfl⟩ rfl dX0_strike_11 (fun x3 μ4 H locs hf h => ?_)
    refine lv_istore_n (lv' := [(2, .int x3), (0, .ref (ad b0)), (1, .int a1)]) X.hx X.hb dX0_strike_14 rfl hl (by decide) rfl (fun ls hl => ?_)
    refine lv_iload_n X.hx X.hb dX0_strike_15 rfl (lv_at hl 0 rfl) ?_
    refine lv_if_ge (tgt := 21) X.hx X.hb dX0_strike_16 (by decide) (fun hc => ?_) (fun hc => ?_)
    · replace hf := gif_t hf hc
      clear hc
      refine lv_aload_n X.hx X.hb dX0_strike_21 rfl (lv_at hl 1 rfl) ?_
      refine lv_aload_n X.hx X.hb dX0_strike_22 rfl (lv_at hl 1 rfl) ?_
      refine r_getP X h (ci := 0) (k := 5) (C := RX0) (T := TX0) (N := 36) rfl in_X0 (by decide) q146 rfl dX0_strike_23 hf (fun i5 hf => ?_)
      refine lv_iload_n X.hx X.hb dX0_strike_26 rfl (lv_at hl 2 rfl) ?_
      refine r_aald X h (t := 3) rfl rfl dX0_strike_27 hf (fun o6 hf => ?_)
      refine r_nn hf (fun i7 hf => ?_)
      refine r_cVI (As := [.ref (ad i7)]) (rest := []) (C := RX0) (T := TX0) (N := 36) X h hf (fun res hres => wX0_ringSet l Γ ad _ b0 i7 res hres) rfl (cwV 1 X.hts (lw_V q932 q934 qs29 q82 q935) rfl rfl rfl (by decide +kernel) ⟨Nat.le_of_ble_eq_true rfl, Nat.le_of_ble_eq_true rfl⟩) rfl ⟨hl.1, Nat.le_of_ble_eq_true rfl, Nat.le_of_ble_eq_true rfl, Nat.le_of_ble_eq_true rfl⟩ rfl dX0_strike_28 (fun x8 μ9 H locs hf h => ?_)
      refine lv_istore_n (lv' := [(3, .int x8), (2, .int x3), (0, .ref (ad b0)), (1, .int a1)]) X.hx X.hb dX0_strike_31 rfl hl (by decide) rfl (fun ls hl => ?_)
      refine lv_bipush (v := (-9)) X.hx X.hb dX0_strike_32 (by decide) ?_
      refine lv_istore (lv' := [(4, .int (-9)), (3, .int x8), (2, .int x3), (0, .ref (ad b0)), (1, .int a1)]) X.hx X.hb dX0_strike_34 hl (by decide) rfl (fun ls hl => ?_)
      refine r_ldcw X (v := 1048576) q784 dX0_strike_36 ?_
      refine lv_istore (lv' := [(5, .int 1048576), (4, .int (-9)), (3, .int x8), (2, .int x3), (0, .ref (ad b0)), (1, .int a1)]) X.hx X.hb dX0_strike_39 hl (by decide) rfl (fun ls hl => ?_)
      refine lv_iconst (v := 0) X.hx X.hb dX0_strike_41 (by decide) ?_
      refine lv_istore (lv' := [(6, .int 0), (5, .int 1048576), (4, .int (-9)), (3, .int x8), (2, .int x3), (0, .ref (ad b0)), (1, .int a1)]) X.hx X.hb dX0_strike_42 hl (by decide) rfl (fun ls hl => ?_)
      refine wX0_strike_L44 l b0 x8 _ X hr hlk (fun x34 x35 μ36 H locs ls hf h hl => ?_) 10000 _ _ _ _ _ _ _ hf h (lv_sub hl [5, 3, 2, 1, 0] rfl)
      refine lv_iload X.hx X.hb dX0_strike_117 (lv_at hl 1 rfl) ?_
      refine lv_bipush (v := (-9)) X.hx X.hb dX0_strike_119 (by decide) ?_
      refine lv_icmp_ne (tgt := 129) X.hx X.hb dX0_strike_121 (by decide) (fun hc => ?_) (fun hc => ?_)
      · replace hf := gif_f hf hc
        clear hc
        refine lv_aload_n X.hx X.hb dX0_strike_129 rfl (lv_at hl 0 rfl) ?_
        refine lv_iload X.hx X.hb dX0_strike_130 (lv_at hl 2 rfl) ?_
        refine lv_iload X.hx X.hb dX0_strike_132 (lv_at hl 1 rfl) ?_
        refine r_cVI (As := [.int x35, .int x34]) (rest := []) (C := RX0) (T := TX0) (N := 36) X h hf (fun res hres => wX0_ask l Γ ad _ b0 x35 x34 res hres) rfl (cwV 2 X.hts (lw_V q403 q405 qs3 q82 q406) rfl rfl rfl (by decide +kernel) ⟨Nat.le_of_ble_eq_true rfl, Nat.le_of_ble_eq_true rfl⟩) rfl ⟨hl.1, Nat.le_of_ble_eq_true rfl, Nat.le_of_ble_eq_true rfl, Nat.le_of_ble_eq_true rfl⟩ rfl dX0_strike_134 (fun x37 μ38 H locs hf h => ?_)
        exact r_ri X h hr hlk (Nat.le_of_ble_eq_true rfl) (Nat.le_of_ble_eq_true rfl) dX0_strike_137 hf
      · replace hf := gif_t hf hc
        clear hc
        refine lv_bipush (v := (-9)) X.hx X.hb dX0_strike_124 (by decide) ?_
        refine lv_goto (tgt := 137) X.hx X.hb dX0_strike_126 (by decide) ?_
        exact r_ri X h hr hlk (Nat.le_of_ble_eq_true rfl) (Nat.le_of_ble_eq_true rfl) dX0_strike_137 hf
    · replace hf := gif_f hf hc
      clear hc
      refine lv_iload_n X.hx X.hb dX0_strike_19 rfl (lv_at hl 0 rfl) ?_
      exact r_ri X h hr hlk (Nat.le_of_ble_eq_true rfl) (Nat.le_of_ble_eq_true rfl) dX0_strike_20 hf
  · replace hf := gif_t hf hc
    clear hc
    refine lv_iconst (v := (-1)) X.hx X.hb dX0_strike_7 (by decide) ?_
    exact r_ri X h hr hlk (Nat.le_of_ble_eq_true rfl) (Nat.le_of_ble_eq_true rfl) dX0_strike_8 hf
/-! X0_tear -/
def fX0_tear (μ0 : gM) (b0 : Nat) (a1 : Int32) : gR := cI (fX0_isRow μ0 a1) fun x1 μ2 => if x1 = 0 then (some (some (.int (-1)), μ2)) else (gP (gfld μ2 b0 0 5) fun i3 => gaQ μ2 3 i3 a1 fun o4 => gnu o4 (gis μ2 b0 0 <| cI (fX0_found μ2 b0 1) fun x7 μ8 => some (some (.int x7), μ8)) (gP (gfld μ2 b0 0 5) fun i5 => gsQ μ2 3 i5 a1 none fun μ6 => some (some (.int 1), μ6)))
set_option maxHeartbeats 4000000 in
theorem wX0_tear (l : Launch) (Γ : gG) (ad : Nat → Nat) (μ0 : gM) (b0 : Nat) (a1 : Int32) (r : Option Value × gM) (hf : fX0_tear μ0 b0 a1 = some r) : gMt0 l Γ yX0_tear (ws_ yX0_tear cX0_tear 2 (some .int)) ({ frames := 2, cells := 0, slots := 0, locals := 42 } : Room) 0 0 ad μ0 [.ref (ad b0), .int a1] r := by
  intro sz
  refine g_start (maxL := 2) (ret := (some .int)) (by decide) rfl g_all (Nat.le_of_ble_eq_true rfl) ?_
  intro p e s m below meth c ls hr hlk hnm X h hl
  generalize gA ad μ0 sz = A at X h ⊢
  generalize ([.ref (ad b0), .int a1] : List Value).toArray = args at X ⊢
  have X : gX p m c cX0_tear 2 s args "SandPiano" Γ A := X
  have hl : lv_has ls 2 [(0, .ref (ad b0)), (1, .int a1)] := hl
  show W p l e ({ frames := 2, cells := 0, slots := 0, locals := 42 } : Room) s m args below meth c s.heap [] 0 0 (MQ below (gQ0 Γ ad μ0.1 r A) args s 0 0 A) (F0 m 0 ls [])
  unfold fX0_tear at hf
  refine lv_iload_n X.hx X.hb dX0_tear_0 rfl (lv_at hl 1 rfl) ?_
  refine r_cSI (As := [.int a1]) (rest := []) X h hf (fun res hres => wX0_isRow l Γ ad _ a1 res hres) (va_cwS 1 X.hts (lw_S q341 q342 q82 q343) rfl rfl rfl (by decide +kernel) ⟨Nat.le_of_ble_eq_true rfl, Nat.le_of_ble_eq_true rfl⟩) rfl ⟨hl.1, Nat.le_of_ble_eq_true rfl, Nat.le_of_ble_eq_true rfl, Nat.le_of_ble_eq_true rfl⟩ rfl dX0_tear_1 (fun x1 μ2 H locs hf h => ?_)
  refine lv_if_ne (tgt := 9) X.hx X.hb dX0_tear_4 (by decide) (fun hc => ?_) (fun hc => ?_)
  · replace hf := gif_f hf hc
    clear hc
    refine lv_aload_n X.hx X.hb dX0_tear_9 rfl (lv_at hl 0 rfl) ?_
    refine r_getP X h (ci := 0) (k := 5) (C := RX0) (T := TX0) (N := 36) rfl in_X0 (by decide) q146 rfl dX0_tear_10 hf (fun i3 hf => ?_)
    refine lv_iload_n X.hx X.hb dX0_tear_13 rfl (lv_at hl 1 rfl) ?_
    refine r_aald X h (t := 3) rfl rfl dX0_tear_14 hf (fun o4 hf => ?_)
    refine r_ifnn (tgt := 24) X.hx X.hb dX0_tear_15 (by decide) hf (fun hf => ?_) (fun hf => ?_)
    · refine lv_aload_n X.hx X.hb dX0_tear_24 rfl (lv_at hl 0 rfl) ?_
      refine r_getP X h (ci := 0) (k := 5) (C := RX0) (T := TX0) (N := 36) rfl in_X0 (by decide) q146 rfl dX0_tear_25 hf (fun i5 hf => ?_)
      refine lv_iload_n X.hx X.hb dX0_tear_28 rfl (lv_at hl 1 rfl) ?_
      refine lv_null X.hx X.hb dX0_tear_29 ?_
      refine r_astN X h (t := 3) rfl rfl dX0_tear_30 hf (fun μ6 H locs hf h => ?_)
      refine lv_iconst (v := 1) X.hx X.hb dX0_tear_31 (by decide) ?_
      exact r_ri X h hr hlk (Nat.le_of_ble_eq_true rfl) (Nat.le_of_ble_eq_true rfl) dX0_tear_32 hf
    · refine lv_aload_n X.hx X.hb dX0_tear_18 rfl (lv_at hl 0 rfl) ?_
      refine lv_iconst (v := 1) X.hx X.hb dX0_tear_19 (by decide) ?_
      refine r_cVI (As := [.int 1]) (rest := []) (C := RX0) (T := TX0) (N := 36) X h hf (fun res hres => wX0_found l Γ ad _ b0 1 res hres) rfl (cwV 1 X.hts (lw_V q347 q349 qs2 q82 q350) rfl rfl rfl (by decide +kernel) ⟨Nat.le_of_ble_eq_true rfl, Nat.le_of_ble_eq_true rfl⟩) rfl ⟨hl.1, Nat.le_of_ble_eq_true rfl, Nat.le_of_ble_eq_true rfl, Nat.le_of_ble_eq_true rfl⟩ rfl dX0_tear_20 (fun x7 μ8 H locs hf h => ?_)
      exact r_ri X h hr hlk (Nat.le_of_ble_eq_true rfl) (Nat.le_of_ble_eq_true rfl) dX0_tear_23 hf
  · replace hf := gif_t hf hc
    clear hc
    refine lv_iconst (v := (-1)) X.hx X.hb dX0_tear_7 (by decide) ?_
    exact r_ri X h hr hlk (Nat.le_of_ble_eq_true rfl) (Nat.le_of_ble_eq_true rfl) dX0_tear_8 hf
/-! X0_text -/
def fX0_text_L22 (b0 : Nat) (a1 : Int32) (a2 : Int32) (i5 : Nat) (kx40 : gM → gR) : Nat → Int32 → gM → gR
  | 0, _, _ => none
  | n10 + 1, x8, μ9 => if a2 ≤ x8 then (kx40 μ9) else (gsI μ9 1 i5 x8 (vp_nar .byte 32) fun μ12 => gnm (x8 + 1) fun x13 => fX0_text_L22 b0 a1 a2 i5 kx40 n10 x13 μ12)
set_option maxHeartbeats 4000000 in
theorem wX0_text_L22 {p : Program} {e : Env} {s : State} {m : MethodId} {args : Array Value} {below : List Frame} {meth : Method} {c : Code} {Γ : gG} {A : Nat → Prop} {nz : Nat} {ad : Nat → Nat} {r : Option Value × gM} (l : Launch) (b0 : Nat) (a1 : Int32) (a2 : Int32) (i5 : Nat) (kx40 : gM → gR) (X : gX p m c cX0_text 5 s args "SandPiano" Γ A) (hr : meth.sig.returnType = (some .int)) (hlk : meth.locks = false) (hk40 : ∀  (μ : gM) (ad1 : Nat → Nat) (H : Heap) (locs : List Loc) (ls : Array Slot), (∀ i, i < nz → ad1 i = ad i) → kx40  μ = some r → gWd Γ A nz ad1 μ s.heap H locs → lv_has ls 5 [(0, .ref (ad1 b0)), (1, .int a1), (2, .int a2), (3, .ref (ad1 i5))] → W p l e ({ frames := 9, cells := 3, slots := 60, locals := 10248 } : Room) s m args below meth c H locs 1 60 (MQ below (gQ1 Γ ad nz r A) args s 3 60 A) (F0 m 40 ls [])) : ∀ (n10 : Nat) (x8 : Int32) (μ9 : gM) (ad11 : Nat → Nat) (H : Heap) (locs : List Loc) (ls : Array Slot), (∀ i, i < nz → ad11 i = ad i) → fX0_text_L22 b0 a1 a2 i5 kx40 n10 x8 μ9 = some r → gWd Γ A nz ad11 μ9 s.heap H locs → lv_has ls 5 [(0, .ref (ad11 b0)), (1, .int a1), (2, .int a2), (3, .ref (ad11 i5)), (4, .int x8)] → W p l e ({ frames := 9, cells := 3, slots := 60, locals := 10248 } : Room) s m args below meth c H locs 1 60 (MQ below (gQ1 Γ ad nz r A) args s 3 60 A) (F0 m 22 ls []) := by
  intro n10
  induction n10 with
  | zero =>
    intro x8 μ9 ad11 H locs ls hag hf h hl
    have hf : (none : gR) = some r := hf
    cases hf
  | succ n10 ih =>
    intro x8 μ9 ad11 H locs ls hag hf h hl
    rw [fX0_text_L22] at hf
    refine lv_iload X.hx X.hb dX0_text_22 (lv_at hl 4 rfl) ?_
    refine lv_iload_n X.hx X.hb dX0_text_24 rfl (lv_at hl 2 rfl) ?_
    refine lv_icmp_ge (tgt := 40) X.hx X.hb dX0_text_25 (by decide) (fun hc => ?_) (fun hc => ?_)
    · replace hf := gif_t hf hc
      clear hc
      exact hk40 _ _ _ _ _ hag hf h (lv_sub hl [0, 1, 2, 3] rfl)
    · replace hf := gif_f hf hc
      clear hc
      refine lv_aload_n X.hx X.hb dX0_text_28 rfl (lv_at hl 3 rfl) ?_
      refine lv_iload X.hx X.hb dX0_text_29 (lv_at hl 4 rfl) ?_
      refine lv_bipush (v := 32) X.hx X.hb dX0_text_31 (by decide) ?_
      refine r_bast X h dX0_text_33 hf (fun μ12 H locs hf h => ?_)
      refine r_nmk hf (fun x13 ex hf => ?_)
      refine lv_iinc (v := x13) (lv' := [(4, .int x13), (0, .ref (ad11 b0)), (1, .int a1), (2, .int a2), (3, .ref (ad11 i5))]) X.hx X.hb dX0_text_34 hl (k := 4) rfl (by rw [ex]; rfl) (by decide) rfl (fun ls hl => ?_)
      clear ex
      refine lv_goto (tgt := 22) X.hx X.hb dX0_text_37 (by decide) ?_
      exact ih _ _ _ _ _ _ hag hf h (lv_sub hl [1, 2, 3, 4, 0] rfl)
def fX0_text (μ0 : gM) (b0 : Nat) (a1 : Int32) (a2 : Int32) : gR := cI (fX0_isText μ0 a1) fun x1 μ2 => if x1 = 0 then (some (some (.int (-1)), μ2)) else (if a2 ≤ 60 then (glv μ2 b0 <| tna μ2 1 60 a2 (gis μ2 b0 0 <| cI (fX0_found μ2 b0 5) fun x6 μ7 => some (some (.int x6), μ7)) fun μ4 i5 => fX0_text_L22 b0 a1 a2 i5 (fun (μ14 : gM) => gP (gfld μ14 b0 0 6) fun i16 => gha μ14 1 i5 <| gsQ μ14 4 i16 a1 (some i5) fun μ17 => some (some (.int a2), μ17)) 10000 0 μ4) else (some (some (.int (-1)), μ2)))
set_option maxHeartbeats 4000000 in
theorem wX0_text (l : Launch) (Γ : gG) (hst : l.stackTraces = false) (ad : Nat → Nat) (μ0 : gM) (b0 : Nat) (a1 : Int32) (a2 : Int32) (r : Option Value × gM) (hf : fX0_text μ0 b0 a1 a2 = some r) : gMtE1 l Γ yX0_text (wsW_ yX0_text cX0_text 5 (some .int) [(15, 48, 49, 113)]) ({ frames := 9, cells := 3, slots := 60, locals := 10248 } : Room) 3 60 ad μ0 [.ref (ad b0), .int a1, .int a2] r := by
  intro sz
  refine g_startW hst (maxL := 5) (ret := (some .int)) (by decide) rfl g_allW (Nat.le_of_ble_eq_true rfl) ?_
  intro p e s m below meth c ls hr hlk hnm X Y h hl
  generalize gA ad μ0 sz = A at X Y h ⊢
  generalize ([.ref (ad b0), .int a1, .int a2] : List Value).toArray = args at X ⊢
  have X : gX p m c cX0_text 5 s args "SandPiano" Γ A := X
  have hl : lv_has ls 5 [(0, .ref (ad b0)), (1, .int a1), (2, .int a2)] := hl
  show W p l e ({ frames := 9, cells := 3, slots := 60, locals := 10248 } : Room) s m args below meth c s.heap [] 0 0 (MQ below (gQ1 Γ ad μ0.1 r A) args s 3 60 A) (F0 m 0 ls [])
  unfold fX0_text at hf
  have hag : ∀ i, i < μ0.1 → ad i = ad i := fun _ _ => rfl
  refine lv_iload_n X.hx X.hb dX0_text_0 rfl (lv_at hl 1 rfl) ?_
  refine r_cSI (As := [.int a1]) (rest := []) X h hf (fun res hres => wX0_isText l Γ ad _ a1 res hres) (va_cwS 1 X.hts (lw_S q442 q443 q82 q444) rfl rfl rfl (by decide +kernel) ⟨Nat.le_of_ble_eq_true rfl, Nat.le_of_ble_eq_true rfl⟩) rfl ⟨hl.1, Nat.le_of_ble_eq_true rfl, Nat.le_of_ble_eq_true rfl, Nat.le_of_ble_eq_true rfl⟩ rfl dX0_text_1 (fun x1 μ2 H locs hf h => ?_)
  refine lv_if_eq (tgt := 13) X.hx X.hb dX0_text_4 (by decide) (fun hc => ?_) (fun hc => ?_)
  · replace hf := gif_t hf hc
    clear hc
    refine lv_iconst (v := (-1)) X.hx X.hb dX0_text_13 (by decide) ?_
    exact r_ri1 X h hag hr hlk (Nat.le_of_ble_eq_true rfl) (Nat.le_of_ble_eq_true rfl) dX0_text_14 hf
  · replace hf := gif_f hf hc
    clear hc
    refine lv_iload_n X.hx X.hb dX0_text_7 rfl (lv_at hl 2 rfl) ?_
    refine lv_bipush (v := 60) X.hx X.hb dX0_text_8 (by decide) ?_
    refine lv_icmp_le (tgt := 15) X.hx X.hb dX0_text_10 (by decide) (fun hc => ?_) (fun hc => ?_)
    · replace hf := gif_t hf hc
      clear hc
      refine lv_iload_n X.hx X.hb dX0_text_15 rfl (lv_at hl 2 rfl) ?_
      obtain ⟨⟨ek0, hek0⟩, hf⟩ := glv_some hf
      have hlt0 := (h.1 _ _ hek0).1
      clear hek0 ek0
      have hle := h.2.2.2
      refine r_tnewB (rest := []) X Y h (lim := 60) ⟨hl.1, Nat.le_of_ble_eq_true rfl, Nat.le_of_ble_eq_true rfl, Nat.le_of_ble_eq_true rfl⟩ ⟨Nat.le_of_ble_eq_true rfl, Nat.le_of_ble_eq_true rfl⟩ ⟨0, 15, 48, 113, "java/lang/NegativeArraySizeException", rfl, by decide, by decide, by decide, q255, List.contains_iff_mem.mp (by decide +kernel), x_pre0⟩ (Nat.le_of_ble_eq_true rfl) (Nat.le_of_ble_eq_true rfl) dX0_text_16 hf (fun hf v H locs h => ?_) (fun ad3 i5 μ4 H locs hf hag1 h => ?_)
      · refine lv_astore_n (lv' := [(3, .ref v), (0, .ref (ad b0)), (1, .int a1), (2, .int a2)]) X.hx X.hb dX0_text_49 rfl hl (by decide) rfl (fun ls hl => ?_)
        replace hl := lv_sub hl [1, 2, 3] rfl
        have hl : lv_has ls 5 [(0, .ref (ad b0)), (1, .int a1), (2, .int a2)] := hl
        refine lv_aload_n X.hx X.hb dX0_text_50 rfl (lv_at hl 0 rfl) ?_
        refine lv_iconst (v := 5) X.hx X.hb dX0_text_51 (by decide) ?_
        refine r_cVI (As := [.int 5]) (rest := []) (C := RX0) (T := TX0) (N := 36) X h hf (fun res hres => wX0_found l Γ ad _ b0 5 res hres) rfl (cwV 1 X.hts (lw_V q347 q349 qs2 q82 q350) rfl rfl rfl (by decide +kernel) ⟨Nat.le_of_ble_eq_true rfl, Nat.le_of_ble_eq_true rfl⟩) rfl ⟨hl.1, Nat.le_of_ble_eq_true rfl, Nat.le_of_ble_eq_true rfl, Nat.le_of_ble_eq_true rfl⟩ rfl dX0_text_52 (fun x6 μ7 H locs hf h => ?_)
        exact r_ri1 X h hag hr hlk (Nat.le_of_ble_eq_true rfl) (Nat.le_of_ble_eq_true rfl) dX0_text_55 hf
      replace hl : lv_has ls 5 [(0, .ref (ad3 b0)), (1, .int a1), (2, .int a2)] := by rw [hag1 b0 hlt0]; exact hl
      replace hag : ∀ i, i < μ0.1 → ad3 i = ad i := fun i hi => (hag1 i (Nat.lt_of_lt_of_le hi hle)).trans (hag i hi)
      clear hag1 hle hlt0
      refine lv_astore_n (lv' := [(3, .ref (ad3 i5)), (0, .ref (ad3 b0)), (1, .int a1), (2, .int a2)]) X.hx X.hb dX0_text_18 rfl hl (by decide) rfl (fun ls hl => ?_)
      refine lv_iconst (v := 0) X.hx X.hb dX0_text_19 (by decide) ?_
      refine lv_istore (lv' := [(4, .int 0), (3, .ref (ad3 i5)), (0, .ref (ad3 b0)), (1, .int a1), (2, .int a2)]) X.hx X.hb dX0_text_20 hl (by decide) rfl (fun ls hl => ?_)
      refine wX0_text_L22 l b0 a1 a2 i5 _ X hr hlk (fun μ14 ad15 H locs ls hag hf h hl => ?_) 10000 _ _ _ _ _ _ hag hf h (lv_sub hl [2, 3, 4, 1, 0] rfl)
      refine lv_aload_n X.hx X.hb dX0_text_40 rfl (lv_at hl 0 rfl) ?_
      refine r_getP X h (ci := 0) (k := 6) (C := RX0) (T := TX0) (N := 36) rfl in_X0 (by decide) q147 rfl dX0_text_41 hf (fun i16 hf => ?_)
      refine lv_iload_n X.hx X.hb dX0_text_44 rfl (lv_at hl 1 rfl) ?_
      refine lv_aload_n X.hx X.hb dX0_text_45 rfl (lv_at hl 3 rfl) ?_
      obtain ⟨⟨n0, f0, hv⟩, hf⟩ := gha_some hf
      refine r_astB X h hv dX0_text_46 hf (fun μ17 H locs hf h => ?_)
      refine lv_iload_n X.hx X.hb dX0_text_47 rfl (lv_at hl 2 rfl) ?_
      exact r_ri1 X h hag hr hlk (Nat.le_of_ble_eq_true rfl) (Nat.le_of_ble_eq_true rfl) dX0_text_48 hf
    · replace hf := gif_f hf hc
      clear hc
      refine lv_iconst (v := (-1)) X.hx X.hb dX0_text_13 (by decide) ?_
      exact r_ri1 X h hag hr hlk (Nat.le_of_ble_eq_true rfl) (Nat.le_of_ble_eq_true rfl) dX0_text_14 hf
/-! X0_tide -/
def fX0_tide (μ0 : gM) (b0 : Nat) (a1 : Int32) : gR := cI (fX0_isHeight μ0 a1) fun x1 μ2 => if x1 = 0 then (some (some (.int (-1)), μ2)) else (gI (gfld μ2 b0 0 7) fun x3 => if x3 = 0 then (some (some (.int (-4)), μ2)) else (gI (gfld μ2 b0 0 19) fun x4 => if x4 = 60 then (some (some (.int (-2)), μ2)) else (gis μ2 b0 0 <| cV (fX0_note μ2 b0) fun μ5 => gP (gfld μ5 b0 0 10) fun i6 => gis μ5 b0 0 <| cI (fX0_tideIn μ5 b0 i6 a1) fun x7 μ8 => some (some (.int x7), μ8))))
set_option maxHeartbeats 4000000 in
theorem wX0_tide (l : Launch) (Γ : gG) (ad : Nat → Nat) (μ0 : gM) (b0 : Nat) (a1 : Int32) (r : Option Value × gM) (hf : fX0_tide μ0 b0 a1 = some r) : gMt0 l Γ yX0_tide (ws_ yX0_tide cX0_tide 2 (some .int)) ({ frames := 2, cells := 0, slots := 0, locals := 46 } : Room) 0 0 ad μ0 [.ref (ad b0), .int a1] r := by
  intro sz
  refine g_start (maxL := 2) (ret := (some .int)) (by decide) rfl g_all (Nat.le_of_ble_eq_true rfl) ?_
  intro p e s m below meth c ls hr hlk hnm X h hl
  generalize gA ad μ0 sz = A at X h ⊢
  generalize ([.ref (ad b0), .int a1] : List Value).toArray = args at X ⊢
  have X : gX p m c cX0_tide 2 s args "SandPiano" Γ A := X
  have hl : lv_has ls 2 [(0, .ref (ad b0)), (1, .int a1)] := hl
  show W p l e ({ frames := 2, cells := 0, slots := 0, locals := 46 } : Room) s m args below meth c s.heap [] 0 0 (MQ below (gQ0 Γ ad μ0.1 r A) args s 0 0 A) (F0 m 0 ls [])
  unfold fX0_tide at hf
  refine lv_iload_n X.hx X.hb dX0_tide_0 rfl (lv_at hl 1 rfl) ?_
  refine r_cSI (As := [.int a1]) (rest := []) X h hf (fun res hres => wX0_isHeight l Γ ad _ a1 res hres) (va_cwS 1 X.hts (lw_S q773 q774 q82 q775) rfl rfl rfl (by decide +kernel) ⟨Nat.le_of_ble_eq_true rfl, Nat.le_of_ble_eq_true rfl⟩) rfl ⟨hl.1, Nat.le_of_ble_eq_true rfl, Nat.le_of_ble_eq_true rfl, Nat.le_of_ble_eq_true rfl⟩ rfl dX0_tide_1 (fun x1 μ2 H locs hf h => ?_)
  refine lv_if_ne (tgt := 9) X.hx X.hb dX0_tide_4 (by decide) (fun hc => ?_) (fun hc => ?_)
  · replace hf := gif_f hf hc
    clear hc
    refine lv_aload_n X.hx X.hb dX0_tide_9 rfl (lv_at hl 0 rfl) ?_
    refine r_getI X h (ci := 0) (k := 7) (C := RX0) (T := TX0) (N := 36) rfl in_X0 (by decide) q149 rfl dX0_tide_10 hf (fun x3 hf => ?_)
    refine lv_if_ne (tgt := 19) X.hx X.hb dX0_tide_13 (by decide) (fun hc => ?_) (fun hc => ?_)
    · replace hf := gif_f hf hc
      clear hc
      refine lv_aload_n X.hx X.hb dX0_tide_19 rfl (lv_at hl 0 rfl) ?_
      refine r_getI X h (ci := 0) (k := 19) (C := RX0) (T := TX0) (N := 36) rfl in_X0 (by decide) q161 rfl dX0_tide_20 hf (fun x4 hf => ?_)
      refine lv_bipush (v := 60) X.hx X.hb dX0_tide_23 (by decide) ?_
      refine lv_icmp_ne (tgt := 31) X.hx X.hb dX0_tide_25 (by decide) (fun hc => ?_) (fun hc => ?_)
      · replace hf := gif_f hf hc
        clear hc
        refine lv_aload_n X.hx X.hb dX0_tide_31 rfl (lv_at hl 0 rfl) ?_
        refine r_cVV (As := []) (rest := []) (C := RX0) (T := TX0) (N := 36) X h hf (fun res hres => wX0_note l Γ ad _ b0 res hres) rfl (cwV 0 X.hts (lw_V q718 q720 qs13 q82 q721) rfl rfl rfl (by decide +kernel) ⟨Nat.le_of_ble_eq_true rfl, Nat.le_of_ble_eq_true rfl⟩) rfl ⟨hl.1, Nat.le_of_ble_eq_true rfl, Nat.le_of_ble_eq_true rfl, Nat.le_of_ble_eq_true rfl⟩ rfl dX0_tide_32 (fun μ5 H locs hf h => ?_)
        refine lv_aload_n X.hx X.hb dX0_tide_35 rfl (lv_at hl 0 rfl) ?_
        refine lv_aload_n X.hx X.hb dX0_tide_36 rfl (lv_at hl 0 rfl) ?_
        refine r_getP X h (ci := 0) (k := 10) (C := RX0) (T := TX0) (N := 36) rfl in_X0 (by decide) q152 rfl dX0_tide_37 hf (fun i6 hf => ?_)
        refine lv_iload_n X.hx X.hb dX0_tide_40 rfl (lv_at hl 1 rfl) ?_
        refine r_cVI (As := [.ref (ad i6), .int a1]) (rest := []) (C := RX0) (T := TX0) (N := 36) X h hf (fun res hres => wX0_tideIn l Γ ad _ b0 i6 a1 res hres) rfl (cwV 2 X.hts (lw_V q776 q778 qs15 q82 q779) rfl rfl rfl (by decide +kernel) ⟨Nat.le_of_ble_eq_true rfl, Nat.le_of_ble_eq_true rfl⟩) rfl ⟨hl.1, Nat.le_of_ble_eq_true rfl, Nat.le_of_ble_eq_true rfl, Nat.le_of_ble_eq_true rfl⟩ rfl dX0_tide_41 (fun x7 μ8 H locs hf h => ?_)
        exact r_ri X h hr hlk (Nat.le_of_ble_eq_true rfl) (Nat.le_of_ble_eq_true rfl) dX0_tide_44 hf
      · replace hf := gif_t hf hc
        clear hc
        refine lv_bipush (v := (-2)) X.hx X.hb dX0_tide_28 (by decide) ?_
        exact r_ri X h hr hlk (Nat.le_of_ble_eq_true rfl) (Nat.le_of_ble_eq_true rfl) dX0_tide_30 hf
    · replace hf := gif_t hf hc
      clear hc
      refine lv_bipush (v := (-4)) X.hx X.hb dX0_tide_16 (by decide) ?_
      exact r_ri X h hr hlk (Nat.le_of_ble_eq_true rfl) (Nat.le_of_ble_eq_true rfl) dX0_tide_18 hf
  · replace hf := gif_t hf hc
    clear hc
    refine lv_iconst (v := (-1)) X.hx X.hb dX0_tide_7 (by decide) ?_
    exact r_ri X h hr hlk (Nat.le_of_ble_eq_true rfl) (Nat.le_of_ble_eq_true rfl) dX0_tide_8 hf
/-! X0_tune -/
def fX0_tune_L50 (b0 : Nat) (i10 : Nat) (x11 : Int32) (kx119 : Int64 → gM → gR) (kx81 : gM → gR) : Nat → Int64 → Int32 → gM → gR
  | 0, _, _, _ => none
  | n15 + 1, x12, x13, μ14 => if x11 ≤ x13 then (kx119 x12 μ14) else (gaI μ14 0 i10 x13 fun x16 => gP (gfld μ14 b0 0 9) fun i17 => gaQ μ14 5 i17 x16 fun o18 => gnn o18 fun i19 => gP (gfld μ14 b0 0 22) fun i20 => cI (vX3_plays μ14 i19 i20) fun x21 μ22 => if x21 = 0 then (kx81 μ22) else (gP (gfld μ22 b0 0 22) fun i23 => gis μ22 b0 0 <| cI (fX0_playableIn μ22 b0 i23) fun x24 μ25 => cI (fJ11_bitCount μ25 x24) fun x26 μ27 => gnm ((x12 * ((x26 : Int32).toInt64))) fun x28 => gP (gfld μ27 b0 0 22) fun i29 => gis μ27 b0 0 <| cV (fX0_playIn μ27 b0 i29 x16) fun μ30 => gnm (x13 + 1) fun x31 => fX0_tune_L50 b0 i10 x11 kx119 kx81 n15 x28 x31 μ30))
set_option maxHeartbeats 4000000 in
theorem wX0_tune_L50 {p : Program} {e : Env} {s : State} {m : MethodId} {args : Array Value} {below : List Frame} {meth : Method} {c : Code} {Γ : gG} {A : Nat → Prop} {nz : Nat} {ad : Nat → Nat} {r : Option Value × gM} (l : Launch) (b0 : Nat) (i10 : Nat) (x11 : Int32) (kx119 : Int64 → gM → gR) (kx81 : gM → gR) (X : gX p m c cX0_tune 9 s args "SandPiano" Γ A) (hr : meth.sig.returnType = (some .int)) (hlk : meth.locks = false) (hk119 : ∀ (x32 : Int64) (μ : gM) (H : Heap) (locs : List Loc) (ls : Array Slot), kx119 x32 μ = some r → gWd Γ A nz ad μ s.heap H locs → lv_has ls 9 [(0, .ref (ad b0)), (3, .long x32)] → W p l e ({ frames := 4, cells := 0, slots := 0, locals := 89 } : Room) s m args below meth c H locs 0 0 (MQ below (gQ0 Γ ad nz r A) args s 0 0 A) (F0 m 119 ls [])) (hk81 : ∀  (μ : gM) (H : Heap) (locs : List Loc) (ls : Array Slot), kx81  μ = some r → gWd Γ A nz ad μ s.heap H locs → lv_has ls 9 [(0, .ref (ad b0))] → W p l e ({ frames := 4, cells := 0, slots := 0, locals := 89 } : Room) s m args below meth c H locs 0 0 (MQ below (gQ0 Γ ad nz r A) args s 0 0 A) (F0 m 81 ls [])) : ∀ (n15 : Nat) (x12 : Int64) (x13 : Int32) (μ14 : gM) (H : Heap) (locs : List Loc) (ls : Array Slot), fX0_tune_L50 b0 i10 x11 kx119 kx81 n15 x12 x13 μ14 = some r → gWd Γ A nz ad μ14 s.heap H locs → lv_has ls 9 [(0, .ref (ad b0)), (3, .long x12), (5, .ref (ad i10)), (6, .int x11), (7, .int x13)] → W p l e ({ frames := 4, cells := 0, slots := 0, locals := 89 } : Room) s m args below meth c H locs 0 0 (MQ below (gQ0 Γ ad nz r A) args s 0 0 A) (F0 m 50 ls []) := by
  intro n15
  induction n15 with
  | zero =>
    intro x12 x13 μ14 H locs ls hf h hl
    have hf : (none : gR) = some r := hf
    cases hf
  | succ n15 ih =>
    intro x12 x13 μ14 H locs ls hf h hl
    rw [fX0_tune_L50] at hf
    refine lv_iload X.hx X.hb dX0_tune_50 (lv_at hl 4 rfl) ?_
    refine lv_iload X.hx X.hb dX0_tune_52 (lv_at hl 3 rfl) ?_
    refine lv_icmp_ge (tgt := 119) X.hx X.hb dX0_tune_54 (by decide) (fun hc => ?_) (fun hc => ?_)
    · replace hf := gif_t hf hc
      clear hc
      exact hk119 _ _ _ _ _ hf h (lv_sub hl [0, 1] rfl)
    · replace hf := gif_f hf hc
      clear hc
      refine lv_aload X.hx X.hb dX0_tune_57 (lv_at hl 2 rfl) ?_
      refine lv_iload X.hx X.hb dX0_tune_59 (lv_at hl 4 rfl) ?_
      refine r_iald X h dX0_tune_61 hf (fun x16 hf => ?_)
      refine lv_istore (lv' := [(8, .int x16), (0, .ref (ad b0)), (3, .long x12), (5, .ref (ad i10)), (6, .int x11), (7, .int x13)]) X.hx X.hb dX0_tune_62 hl (by decide) rfl (fun ls hl => ?_)
      refine lv_aload_n X.hx X.hb dX0_tune_64 rfl (lv_at hl 1 rfl) ?_
      refine r_getP X h (ci := 0) (k := 9) (C := RX0) (T := TX0) (N := 36) rfl in_X0 (by decide) q151 rfl dX0_tune_65 hf (fun i17 hf => ?_)
      refine lv_iload X.hx X.hb dX0_tune_68 (lv_at hl 0 rfl) ?_
      refine r_aald X h (t := 5) rfl rfl dX0_tune_70 hf (fun o18 hf => ?_)
      refine r_nn hf (fun i19 hf => ?_)
      refine lv_aload_n X.hx X.hb dX0_tune_71 rfl (lv_at hl 1 rfl) ?_
      refine r_getP X h (ci := 0) (k := 22) (C := RX0) (T := TX0) (N := 36) rfl in_X0 (by decide) q164 rfl dX0_tune_72 hf (fun i20 hf => ?_)
      refine wvX3_plays X h q597 (Nat.le_of_ble_eq_true rfl) (Nat.le_of_ble_eq_true rfl) (rest := []) ⟨hl.1, Nat.le_of_ble_eq_true rfl, Nat.le_of_ble_eq_true rfl, Nat.le_of_ble_eq_true rfl⟩ rfl dX0_tune_75 hf (fun x21 μ22 H locs hf h => ?_)
      refine lv_if_ne (tgt := 88) X.hx X.hb dX0_tune_78 (by decide) (fun hc => ?_) (fun hc => ?_)
      · replace hf := gif_f hf hc
        clear hc
        refine lv_lload_n X.hx X.hb dX0_tune_88 rfl (lv_at hl 2 rfl) ?_
        refine lv_aload_n X.hx X.hb dX0_tune_89 rfl (lv_at hl 1 rfl) ?_
        refine lv_aload_n X.hx X.hb dX0_tune_90 rfl (lv_at hl 1 rfl) ?_
        refine r_getP X h (ci := 0) (k := 22) (C := RX0) (T := TX0) (N := 36) rfl in_X0 (by decide) q164 rfl dX0_tune_91 hf (fun i23 hf => ?_)
        refine r_cVI (As := [.ref (ad i23)]) (rest := [.long x12]) (C := RX0) (T := TX0) (N := 36) X h hf (fun res hres => wX0_playableIn l Γ ad _ b0 i23 res hres) rfl (cwV 1 X.hts (lw_V q700 q702 qs12 q82 q703) rfl rfl rfl (by decide +kernel) ⟨Nat.le_of_ble_eq_true rfl, Nat.le_of_ble_eq_true rfl⟩) rfl ⟨hl.1, Nat.le_of_ble_eq_true rfl, Nat.le_of_ble_eq_true rfl, Nat.le_of_ble_eq_true rfl⟩ rfl dX0_tune_94 (fun x24 μ25 H locs hf h => ?_)
        refine r_cSI (As := [.int x24]) (rest := [.long x12]) X h hf (fun res hres => wJ11_bitCount l Γ ad _ x24 res hres) (va_cwS 1 X.hts (lw_S q944 q705 q103 q706) rfl rfl rfl (by decide +kernel) ⟨Nat.le_of_ble_eq_true rfl, Nat.le_of_ble_eq_true rfl⟩) rfl ⟨hl.1, Nat.le_of_ble_eq_true rfl, Nat.le_of_ble_eq_true rfl, Nat.le_of_ble_eq_true rfl⟩ rfl dX0_tune_97 (fun x26 μ27 H locs hf h => ?_)
        refine lv_i2l X.hx X.hb dX0_tune_100 rfl ?_
        refine lv_lmul X.hx X.hb dX0_tune_101 ?_
        refine r_nmJ hf (fun x28 hf => ?_)
        refine lv_lstore_n (lv' := [(3, .long x28), (8, .int x16), (0, .ref (ad b0)), (5, .ref (ad i10)), (6, .int x11), (7, .int x13)]) X.hx X.hb dX0_tune_102 rfl hl (by decide) rfl (fun ls hl => ?_)
        refine lv_aload_n X.hx X.hb dX0_tune_103 rfl (lv_at hl 2 rfl) ?_
        refine lv_aload_n X.hx X.hb dX0_tune_104 rfl (lv_at hl 2 rfl) ?_
        refine r_getP X h (ci := 0) (k := 22) (C := RX0) (T := TX0) (N := 36) rfl in_X0 (by decide) q164 rfl dX0_tune_105 hf (fun i29 hf => ?_)
        refine lv_iload X.hx X.hb dX0_tune_108 (lv_at hl 1 rfl) ?_
        refine r_cVV (As := [.ref (ad i29), .int x16]) (rest := []) (C := RX0) (T := TX0) (N := 36) X h hf (fun res hres => wX0_playIn l Γ ad _ b0 i29 x16 res hres) rfl (cwV 2 X.hts (lw_V q722 q724 qs14 q82 q725) rfl rfl rfl (by decide +kernel) ⟨Nat.le_of_ble_eq_true rfl, Nat.le_of_ble_eq_true rfl⟩) rfl ⟨hl.1, Nat.le_of_ble_eq_true rfl, Nat.le_of_ble_eq_true rfl, Nat.le_of_ble_eq_true rfl⟩ rfl dX0_tune_110 (fun μ30 H locs hf h => ?_)
        refine r_nmk hf (fun x31 ex hf => ?_)
        refine lv_iinc (v := x31) (lv' := [(7, .int x31), (3, .long x28), (8, .int x16), (0, .ref (ad b0)), (5, .ref (ad i10)), (6, .int x11)]) X.hx X.hb dX0_tune_113 hl (k := 5) rfl (by rw [ex]; rfl) (by decide) rfl (fun ls hl => ?_)
        clear ex
        refine lv_goto (tgt := 50) X.hx X.hb dX0_tune_116 (by decide) ?_
        exact ih _ _ _ _ _ _ hf h (lv_sub hl [3, 1, 4, 5, 0] rfl)
      · replace hf := gif_t hf hc
        clear hc
        exact hk81 _ _ _ _ hf h (lv_sub hl [1] rfl)
def fX0_tune (μ0 : gM) (b0 : Nat) (a1 : Int32) : gR := cI (fX0_isRow μ0 a1) fun x1 μ2 => if x1 = 0 then (some (some (.int (-1)), μ2)) else (gis μ2 b0 0 <| cI (fX0_askedPiece μ2 b0 a1) fun x3 μ4 => if 0 ≤ x3 then (gP (gfld μ4 b0 0 22) fun i5 => gP (gfld μ4 b0 0 10) fun i6 => gis μ4 i5 1 <| cV (fX1_take μ4 i5 i6) fun μ7 => gP (gfld μ7 b0 0 5) fun i8 => gaQ μ7 3 i8 a1 fun o9 => gnn o9 fun i10 => glen μ7 0 i10 fun x11 => fX0_tune_L50 b0 i10 x11 (fun (x33 : Int64) (μ34 : gM) => gis μ34 b0 0 <| cI (fX0_chances μ34 b0 1 x33) fun x35 μ36 => some (some (.int x35), μ36)) (fun (μ37 : gM) => gis μ37 b0 0 <| cI (fX0_chances μ37 b0 0 1) fun x38 μ39 => some (some (.int x38), μ39)) 10000 1 0 μ7) else (some (some (.int x3), μ4)))
set_option maxHeartbeats 4000000 in
theorem wX0_tune (l : Launch) (Γ : gG) (ad : Nat → Nat) (μ0 : gM) (b0 : Nat) (a1 : Int32) (r : Option Value × gM) (hf : fX0_tune μ0 b0 a1 = some r) : gMt0 l Γ yX0_tune (ws_ yX0_tune cX0_tune 9 (some .int)) ({ frames := 4, cells := 0, slots := 0, locals := 89 } : Room) 0 0 ad μ0 [.ref (ad b0), .int a1] r := by
  intro sz
  refine g_start (maxL := 9) (ret := (some .int)) (by decide) rfl g_all (Nat.le_of_ble_eq_true rfl) ?_
  intro p e s m below meth c ls hr hlk hnm X h hl
  generalize gA ad μ0 sz = A at X h ⊢
  generalize ([.ref (ad b0), .int a1] : List Value).toArray = args at X ⊢
  have X : gX p m c cX0_tune 9 s args "SandPiano" Γ A := X
  have hl : lv_has ls 9 [(0, .ref (ad b0)), (1, .int a1)] := hl
  show W p l e ({ frames := 4, cells := 0, slots := 0, locals := 89 } : Room) s m args below meth c s.heap [] 0 0 (MQ below (gQ0 Γ ad μ0.1 r A) args s 0 0 A) (F0 m 0 ls [])
  unfold fX0_tune at hf
  refine lv_iload_n X.hx X.hb dX0_tune_0 rfl (lv_at hl 1 rfl) ?_
  refine r_cSI (As := [.int a1]) (rest := []) X h hf (fun res hres => wX0_isRow l Γ ad _ a1 res hres) (va_cwS 1 X.hts (lw_S q341 q342 q82 q343) rfl rfl rfl (by decide +kernel) ⟨Nat.le_of_ble_eq_true rfl, Nat.le_of_ble_eq_true rfl⟩) rfl ⟨hl.1, Nat.le_of_ble_eq_true rfl, Nat.le_of_ble_eq_true rfl, Nat.le_of_ble_eq_true rfl⟩ rfl dX0_tune_1 (fun x1 μ2 H locs hf h => ?_)
  refine lv_if_ne (tgt := 9) X.hx X.hb dX0_tune_4 (by decide) (fun hc => ?_) (fun hc => ?_)
  · replace hf := gif_f hf hc
    clear hc
    refine lv_aload_n X.hx X.hb dX0_tune_9 rfl (lv_at hl 0 rfl) ?_
    refine lv_iload_n X.hx X.hb dX0_tune_10 rfl (lv_at hl 1 rfl) ?_
    refine r_cVI (As := [.int a1]) (rest := []) (C := RX0) (T := TX0) (N := 36) X h hf (fun res hres => wX0_askedPiece l Γ ad _ b0 a1 res hres) rfl (cwV 1 X.hts (lw_V q845 q847 qs17 q82 q848) rfl rfl rfl (by decide +kernel) ⟨Nat.le_of_ble_eq_true rfl, Nat.le_of_ble_eq_true rfl⟩) rfl ⟨hl.1, Nat.le_of_ble_eq_true rfl, Nat.le_of_ble_eq_true rfl, Nat.le_of_ble_eq_true rfl⟩ rfl dX0_tune_11 (fun x3 μ4 H locs hf h => ?_)
    refine lv_istore_n (lv' := [(2, .int x3), (0, .ref (ad b0)), (1, .int a1)]) X.hx X.hb dX0_tune_14 rfl hl (by decide) rfl (fun ls hl => ?_)
    refine lv_iload_n X.hx X.hb dX0_tune_15 rfl (lv_at hl 0 rfl) ?_
    refine lv_if_ge (tgt := 21) X.hx X.hb dX0_tune_16 (by decide) (fun hc => ?_) (fun hc => ?_)
    · replace hf := gif_t hf hc
      clear hc
      refine lv_aload_n X.hx X.hb dX0_tune_21 rfl (lv_at hl 1 rfl) ?_
      refine r_getP X h (ci := 0) (k := 22) (C := RX0) (T := TX0) (N := 36) rfl in_X0 (by decide) q164 rfl dX0_tune_22 hf (fun i5 hf => ?_)
      refine lv_aload_n X.hx X.hb dX0_tune_25 rfl (lv_at hl 1 rfl) ?_
      refine r_getP X h (ci := 0) (k := 10) (C := RX0) (T := TX0) (N := 36) rfl in_X0 (by decide) q152 rfl dX0_tune_26 hf (fun i6 hf => ?_)
      refine r_cVV (As := [.ref (ad i6)]) (rest := []) (C := RX1) (T := TX1) (N := 1) X h hf (fun res hres => wX1_take l Γ ad _ i5 i6 res hres) rfl (cwV 1 X.hts (lw_V q832 q833 q834 q83 q835) rfl rfl rfl (by decide +kernel) ⟨Nat.le_of_ble_eq_true rfl, Nat.le_of_ble_eq_true rfl⟩) rfl ⟨hl.1, Nat.le_of_ble_eq_true rfl, Nat.le_of_ble_eq_true rfl, Nat.le_of_ble_eq_true rfl⟩ rfl dX0_tune_29 (fun μ7 H locs hf h => ?_)
      refine lv_lconst (v := 1) X.hx X.hb dX0_tune_32 (by decide) ?_
      refine lv_lstore_n (lv' := [(3, .long 1), (2, .int x3), (0, .ref (ad b0)), (1, .int a1)]) X.hx X.hb dX0_tune_33 rfl hl (by decide) rfl (fun ls hl => ?_)
      refine lv_aload_n X.hx X.hb dX0_tune_34 rfl (lv_at hl 2 rfl) ?_
      refine r_getP X h (ci := 0) (k := 5) (C := RX0) (T := TX0) (N := 36) rfl in_X0 (by decide) q146 rfl dX0_tune_35 hf (fun i8 hf => ?_)
      refine lv_iload_n X.hx X.hb dX0_tune_38 rfl (lv_at hl 3 rfl) ?_
      refine r_aald X h (t := 3) rfl rfl dX0_tune_39 hf (fun o9 hf => ?_)
      refine r_nn hf (fun i10 hf => ?_)
      refine lv_astore (lv' := [(5, .ref (ad i10)), (3, .long 1), (2, .int x3), (0, .ref (ad b0)), (1, .int a1)]) X.hx X.hb dX0_tune_40 hl (by decide) rfl (fun ls hl => ?_)
      refine lv_aload X.hx X.hb dX0_tune_42 (lv_at hl 0 rfl) ?_
      refine r_len X h (t := 0) rfl dX0_tune_44 hf (fun x11 hf => ?_)
      refine lv_istore (lv' := [(6, .int x11), (5, .ref (ad i10)), (3, .long 1), (2, .int x3), (0, .ref (ad b0)), (1, .int a1)]) X.hx X.hb dX0_tune_45 hl (by decide) rfl (fun ls hl => ?_)
      refine lv_iconst (v := 0) X.hx X.hb dX0_tune_47 (by decide) ?_
      refine lv_istore (lv' := [(7, .int 0), (6, .int x11), (5, .ref (ad i10)), (3, .long 1), (2, .int x3), (0, .ref (ad b0)), (1, .int a1)]) X.hx X.hb dX0_tune_48 hl (by decide) rfl (fun ls hl => ?_)
      refine wX0_tune_L50 l b0 i10 x11 _ _ X hr hlk (fun x33 μ34 H locs ls hf h hl => ?_) (fun μ37 H locs ls hf h hl => ?_) 10000 _ _ _ _ _ _ hf h (lv_sub hl [5, 3, 2, 1, 0] rfl)
      · refine lv_aload_n X.hx X.hb dX0_tune_119 rfl (lv_at hl 0 rfl) ?_
        refine lv_lconst (v := 1) X.hx X.hb dX0_tune_120 (by decide) ?_
        refine lv_lload_n X.hx X.hb dX0_tune_121 rfl (lv_at hl 1 rfl) ?_
        refine r_cVI (As := [.long 1, .long x33]) (rest := []) (C := RX0) (T := TX0) (N := 36) X h hf (fun res hres => wX0_chances l Γ ad _ b0 1 x33 res hres) rfl (cwV 2 X.hts (lw_V q951 q953 qs31 q82 q954) rfl rfl rfl (by decide +kernel) ⟨Nat.le_of_ble_eq_true rfl, Nat.le_of_ble_eq_true rfl⟩) rfl ⟨hl.1, Nat.le_of_ble_eq_true rfl, Nat.le_of_ble_eq_true rfl, Nat.le_of_ble_eq_true rfl⟩ rfl dX0_tune_122 (fun x35 μ36 H locs hf h => ?_)
        exact r_ri X h hr hlk (Nat.le_of_ble_eq_true rfl) (Nat.le_of_ble_eq_true rfl) dX0_tune_125 hf
      · refine lv_aload_n X.hx X.hb dX0_tune_81 rfl (lv_at hl 0 rfl) ?_
        refine lv_lconst (v := 0) X.hx X.hb dX0_tune_82 (by decide) ?_
        refine lv_lconst (v := 1) X.hx X.hb dX0_tune_83 (by decide) ?_
        refine r_cVI (As := [.long 0, .long 1]) (rest := []) (C := RX0) (T := TX0) (N := 36) X h hf (fun res hres => wX0_chances l Γ ad _ b0 0 1 res hres) rfl (cwV 2 X.hts (lw_V q951 q953 qs31 q82 q954) rfl rfl rfl (by decide +kernel) ⟨Nat.le_of_ble_eq_true rfl, Nat.le_of_ble_eq_true rfl⟩) rfl ⟨hl.1, Nat.le_of_ble_eq_true rfl, Nat.le_of_ble_eq_true rfl, Nat.le_of_ble_eq_true rfl⟩ rfl dX0_tune_84 (fun x38 μ39 H locs hf h => ?_)
        exact r_ri X h hr hlk (Nat.le_of_ble_eq_true rfl) (Nat.le_of_ble_eq_true rfl) dX0_tune_87 hf
    · replace hf := gif_f hf hc
      clear hc
      refine lv_iload_n X.hx X.hb dX0_tune_19 rfl (lv_at hl 0 rfl) ?_
      exact r_ri X h hr hlk (Nat.le_of_ble_eq_true rfl) (Nat.le_of_ble_eq_true rfl) dX0_tune_20 hf
  · replace hf := gif_t hf hc
    clear hc
    refine lv_iconst (v := (-1)) X.hx X.hb dX0_tune_7 (by decide) ?_
    exact r_ri X h hr hlk (Nat.le_of_ble_eq_true rfl) (Nat.le_of_ble_eq_true rfl) dX0_tune_8 hf
/-! X0_undo -/
def fX0_undo (μ0 : gM) (b0 : Nat) (a1 : Int32) : gR := gI (gfld μ0 b0 0 19) fun x1 => cI (fX0_isIn μ0 a1 0 x1) fun x2 μ3 => if x2 = 0 then (some (some (.int (-1)), μ3)) else (gI (gfld μ3 b0 0 19) fun x4 => gnm ((x4 - a1)) fun x5 => if x5 ≤ 0 then (some (some (.int x5), μ3)) else (gP (gfld μ3 b0 0 20) fun i6 => gP (gfld μ3 b0 0 10) fun i7 => gP (gfld μ3 i7 1 0) fun i8 => gcp μ3 i6 (9 * a1) i8 0 9 fun μ9 => gpf μ9 b0 0 19 (.int a1) fun μ10 => some (some (.int x5), μ10)))
set_option maxHeartbeats 4000000 in
theorem wX0_undo (l : Launch) (Γ : gG) (ad : Nat → Nat) (μ0 : gM) (b0 : Nat) (a1 : Int32) (r : Option Value × gM) (hf : fX0_undo μ0 b0 a1 = some r) : gMt0 l Γ yX0_undo (ws_ yX0_undo cX0_undo 3 (some .int)) ({ frames := 1, cells := 0, slots := 0, locals := 26 } : Room) 0 0 ad μ0 [.ref (ad b0), .int a1] r := by
  intro sz
  refine g_start (maxL := 3) (ret := (some .int)) (by decide) rfl g_all (Nat.le_of_ble_eq_true rfl) ?_
  intro p e s m below meth c ls hr hlk hnm X h hl
  generalize gA ad μ0 sz = A at X h ⊢
  generalize ([.ref (ad b0), .int a1] : List Value).toArray = args at X ⊢
  have X : gX p m c cX0_undo 3 s args "SandPiano" Γ A := X
  have hl : lv_has ls 3 [(0, .ref (ad b0)), (1, .int a1)] := hl
  show W p l e ({ frames := 1, cells := 0, slots := 0, locals := 26 } : Room) s m args below meth c s.heap [] 0 0 (MQ below (gQ0 Γ ad μ0.1 r A) args s 0 0 A) (F0 m 0 ls [])
  unfold fX0_undo at hf
  refine lv_iload_n X.hx X.hb dX0_undo_0 rfl (lv_at hl 1 rfl) ?_
  refine lv_iconst (v := 0) X.hx X.hb dX0_undo_1 (by decide) ?_
  refine lv_aload_n X.hx X.hb dX0_undo_2 rfl (lv_at hl 0 rfl) ?_
  refine r_getI X h (ci := 0) (k := 19) (C := RX0) (T := TX0) (N := 36) rfl in_X0 (by decide) q161 rfl dX0_undo_3 hf (fun x1 hf => ?_)
  refine r_cSI (As := [.int a1, .int 0, .int x1]) (rest := []) X h hf (fun res hres => wX0_isIn l Γ ad _ a1 0 x1 res hres) (va_cwS 3 X.hts (lw_S q344 q345 q82 q346) rfl rfl rfl (by decide +kernel) ⟨Nat.le_of_ble_eq_true rfl, Nat.le_of_ble_eq_true rfl⟩) rfl ⟨hl.1, Nat.le_of_ble_eq_true rfl, Nat.le_of_ble_eq_true rfl, Nat.le_of_ble_eq_true rfl⟩ rfl dX0_undo_6 (fun x2 μ3 H locs hf h => ?_)
  refine lv_if_ne (tgt := 14) X.hx X.hb dX0_undo_9 (by decide) (fun hc => ?_) (fun hc => ?_)
  · replace hf := gif_f hf hc
    clear hc
    refine lv_aload_n X.hx X.hb dX0_undo_14 rfl (lv_at hl 0 rfl) ?_
    refine r_getI X h (ci := 0) (k := 19) (C := RX0) (T := TX0) (N := 36) rfl in_X0 (by decide) q161 rfl dX0_undo_15 hf (fun x4 hf => ?_)
    refine lv_iload_n X.hx X.hb dX0_undo_18 rfl (lv_at hl 1 rfl) ?_
    refine lv_isub X.hx X.hb dX0_undo_19 ?_
    refine r_nmI hf (fun x5 hf => ?_)
    refine lv_istore_n (lv' := [(2, .int x5), (0, .ref (ad b0)), (1, .int a1)]) X.hx X.hb dX0_undo_20 rfl hl (by decide) rfl (fun ls hl => ?_)
    refine lv_iload_n X.hx X.hb dX0_undo_21 rfl (lv_at hl 0 rfl) ?_
    refine lv_if_le (tgt := 51) X.hx X.hb dX0_undo_22 (by decide) (fun hc => ?_) (fun hc => ?_)
    · replace hf := gif_t hf hc
      clear hc
      refine lv_iload_n X.hx X.hb dX0_undo_51 rfl (lv_at hl 0 rfl) ?_
      exact r_ri X h hr hlk (Nat.le_of_ble_eq_true rfl) (Nat.le_of_ble_eq_true rfl) dX0_undo_52 hf
    · replace hf := gif_f hf hc
      clear hc
      refine lv_aload_n X.hx X.hb dX0_undo_25 rfl (lv_at hl 1 rfl) ?_
      refine r_getP X h (ci := 0) (k := 20) (C := RX0) (T := TX0) (N := 36) rfl in_X0 (by decide) q162 rfl dX0_undo_26 hf (fun i6 hf => ?_)
      refine lv_bipush (v := 9) X.hx X.hb dX0_undo_29 (by decide) ?_
      refine lv_iload_n X.hx X.hb dX0_undo_31 rfl (lv_at hl 2 rfl) ?_
      refine lv_imul X.hx X.hb dX0_undo_32 ?_
      refine lv_aload_n X.hx X.hb dX0_undo_33 rfl (lv_at hl 1 rfl) ?_
      refine r_getP X h (ci := 0) (k := 10) (C := RX0) (T := TX0) (N := 36) rfl in_X0 (by decide) q152 rfl dX0_undo_34 hf (fun i7 hf => ?_)
      refine r_getNP X h (ci := 1) (k := 0) (C := RX1) (T := TX1) (N := 1) rfl in_X1 (by decide) 8 rfl rfl dX0_undo_37 hf (fun i8 hf => ?_)
      refine lv_iconst (v := 0) X.hx X.hb dX0_undo_40 (by decide) ?_
      refine lv_bipush (v := 9) X.hx X.hb dX0_undo_41 (by decide) ?_
      refine r_copy X h hl.1 q417 (Nat.le_of_ble_eq_true rfl) (Nat.le_trans (m := 26) (Nat.le_of_ble_eq_true rfl) (Nat.le_of_ble_eq_true rfl)) dX0_undo_43 hf (fun μ9 H locs hf h => ?_)
      refine lv_aload_n X.hx X.hb dX0_undo_46 rfl (lv_at hl 1 rfl) ?_
      refine lv_iload_n X.hx X.hb dX0_undo_47 rfl (lv_at hl 2 rfl) ?_
      refine r_put X h (ci := 0) (k := 19) (C := RX0) (T := TX0) (N := 36) (ty0 := tyX0) (ty := .int) (v := .int a1) rfl in_X0 tyX0_ok nmX0 (by decide) q161 rfl rfl (by decide +kernel) rfl rfl (fun j hj => by cases hj) dX0_undo_48 hf (fun μ10 H locs hf h => ?_)
      refine lv_iload_n X.hx X.hb dX0_undo_51 rfl (lv_at hl 0 rfl) ?_
      exact r_ri X h hr hlk (Nat.le_of_ble_eq_true rfl) (Nat.le_of_ble_eq_true rfl) dX0_undo_52 hf
  · replace hf := gif_t hf hc
    clear hc
    refine lv_iconst (v := (-1)) X.hx X.hb dX0_undo_12 (by decide) ?_
    exact r_ri X h hr hlk (Nat.le_of_ble_eq_true rfl) (Nat.le_of_ble_eq_true rfl) dX0_undo_13 hf
