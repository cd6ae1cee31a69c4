set_option maxRecDepth 100000
/-! X0_upper -/
def fX0_upper (μ0 : gM) (b0 : Nat) : gR := gJ (gfld μ0 b0 0 3) fun x1 => some (some (.long x1), μ0)
set_option maxHeartbeats 4000000 in
theorem wX0_upper (l : Launch) (Γ : gG) (ad : Nat → Nat) (μ0 : gM) (b0 : Nat) (r : Option Value × gM) (hf : fX0_upper μ0 b0 = some r) : gMt0 l Γ yX0_upper (ws_ yX0_upper cX0_upper 1 (some .long)) ({ frames := 0, cells := 0, slots := 0, locals := 0 } : Room) 0 0 ad μ0 [.ref (ad b0)] r := by
  intro sz
  refine g_start (maxL := 1) (ret := (some .long)) (by decide) rfl g_all (Nat.le_of_ble_eq_true rfl) ?_
  intro p e s m below meth c ls hr hlk hnm X h hl
  generalize gA ad μ0 sz = A at X h ⊢
  generalize ([.ref (ad b0)] : List Value).toArray = args at X ⊢
  have X : gX p m c cX0_upper 1 s args "SandPiano" Γ A := X
  have hl : lv_has ls 1 [(0, .ref (ad b0))] := hl
  show W p l e ({ frames := 0, cells := 0, slots := 0, locals := 0 } : Room) s m args below meth c s.heap [] 0 0 (MQ below (gQ0 Γ ad μ0.1 r A) args s 0 0 A) (F0 m 0 ls [])
  unfold fX0_upper at hf
  refine lv_aload_n X.hx X.hb dX0_upper_0 rfl (lv_at hl 0 rfl) ?_
  refine r_getJ X h (ci := 0) (k := 3) (C := RX0) (T := TX0) (N := 36) rfl in_X0 (by decide) q144 rfl dX0_upper_1 hf (fun x1 hf => ?_)
  exact r_rl X h hr hlk (Nat.le_of_ble_eq_true rfl) (Nat.le_of_ble_eq_true rfl) dX0_upper_4 hf
/-! J11_numberOfTrailingZeros -/
def fJ11_numberOfTrailingZeros (μ0 : gM) (a1 : Int32) : gR := gnm (((a1 ^^^ (-1)) &&& (a1 - 1))) fun x1 => if 0 < x1 then (gjn (fun (x2 : Int32) (x3 : Int32) (μ4 : gM) => gjn (fun (x6 : Int32) (x7 : Int32) (μ8 : gM) => gjn (fun (x10 : Int32) (x11 : Int32) (μ12 : gM) => gjn (fun (x14 : Int32) (x15 : Int32) (μ16 : gM) => some (some (.int (x15 + ((((x14) : Int32).toUInt32 >>> (((1) : Int32).toUInt32 &&& Int32.toUInt32 31)).toInt32))), μ16)) fun j17 => if x10 ≤ 4 then (j17 x10 x11 μ12) else (gnm (x11 + 2) fun x18 => gnm (((((x10) : Int32).toUInt32 >>> (((2) : Int32).toUInt32 &&& Int32.toUInt32 31)).toInt32)) fun x19 => j17 x19 x18 μ12)) fun j13 => if x6 ≤ 16 then (j13 x6 x7 μ8) else (gnm (x7 + 4) fun x20 => gnm (((((x6) : Int32).toUInt32 >>> (((4) : Int32).toUInt32 &&& Int32.toUInt32 31)).toInt32)) fun x21 => j13 x21 x20 μ8)) fun j9 => if x2 ≤ 256 then (j9 x2 x3 μ4) else (gnm (x3 + 8) fun x22 => gnm (((((x2) : Int32).toUInt32 >>> (((8) : Int32).toUInt32 &&& Int32.toUInt32 31)).toInt32)) fun x23 => j9 x23 x22 μ4)) fun j5 => if x1 ≤ 65536 then (j5 x1 1 μ0) else (gnm (1 + 16) fun x24 => gnm (((((x1) : Int32).toUInt32 >>> (((16) : Int32).toUInt32 &&& Int32.toUInt32 31)).toInt32)) fun x25 => j5 x25 x24 μ0)) else (some (some (.int (x1 &&& 32)), μ0))
set_option maxHeartbeats 4000000 in
theorem wJ11_numberOfTrailingZeros (l : Launch) (Γ : gG) (ad : Nat → Nat) (μ0 : gM) (a1 : Int32) (r : Option Value × gM) (hf : fJ11_numberOfTrailingZeros μ0 a1 = some r) : gMt0 l Γ yJ11_numberOfTrailingZeros (ws_ yJ11_numberOfTrailingZeros cJ11_numberOfTrailingZeros 2 (some .int)) ({ frames := 0, cells := 0, slots := 0, locals := 0 } : Room) 0 0 ad μ0 [.int a1] r := by
  intro sz
  refine g_startF (maxL := 2) (ret := (some .int)) (by decide +kernel) rfl g_all (Nat.le_of_ble_eq_true rfl) ?_
  intro p e s m below meth c ls hr hlk hnm X h hl
  generalize gA ad μ0 sz = A at X h ⊢
  generalize ([.int a1] : List Value).toArray = args at X ⊢
  have X : gX p m c cJ11_numberOfTrailingZeros 2 s args "java/lang/Integer" Γ A := X
  have hl : lv_has ls 2 [(0, .int a1)] := hl
  show W p l e ({ frames := 0, cells := 0, slots := 0, locals := 0 } : Room) s m args below meth c s.heap [] 0 0 (MQ below (gQ0 Γ ad μ0.1 r A) args s 0 0 A) (F0 m 0 ls [])
  unfold fJ11_numberOfTrailingZeros at hf
  refine lv_iload_n X.hx X.hb dJ11_numberOfTrailingZeros_0 rfl (lv_at hl 0 rfl) ?_
  refine lv_iconst (v := (-1)) X.hx X.hb dJ11_numberOfTrailingZeros_1 (by decide) ?_
  refine lv_ixor X.hx X.hb dJ11_numberOfTrailingZeros_2 ?_
  refine lv_iload_n X.hx X.hb dJ11_numberOfTrailingZeros_3 rfl (lv_at hl 0 rfl) ?_
  refine lv_iconst (v := 1) X.hx X.hb dJ11_numberOfTrailingZeros_4 (by decide) ?_
  refine lv_isub X.hx X.hb dJ11_numberOfTrailingZeros_5 ?_
  refine lv_iand X.hx X.hb dJ11_numberOfTrailingZeros_6 ?_
  refine r_nmI hf (fun x1 hf => ?_)
  refine lv_istore_n (lv' := [(0, .int x1)]) X.hx X.hb dJ11_numberOfTrailingZeros_7 rfl hl (by decide) rfl (fun ls hl => ?_)
  refine lv_iload_n X.hx X.hb dJ11_numberOfTrailingZeros_8 rfl (lv_at hl 0 rfl) ?_
  refine lv_if_gt (tgt := 17) X.hx X.hb dJ11_numberOfTrailingZeros_9 (by decide) (fun hc => ?_) (fun hc => ?_)
  · replace hf := gif_t hf hc
    clear hc
    refine lv_iconst (v := 1) X.hx X.hb dJ11_numberOfTrailingZeros_17 (by decide) ?_
    refine lv_istore_n (lv' := [(1, .int 1), (0, .int x1)]) X.hx X.hb dJ11_numberOfTrailingZeros_18 rfl hl (by decide) rfl (fun ls hl => ?_)
    refine lv_iload_n X.hx X.hb dJ11_numberOfTrailingZeros_19 rfl (lv_at hl 1 rfl) ?_
    refine r_ldcw X (v := 65536) q977 dJ11_numberOfTrailingZeros_20 ?_
    refine r_jn hf (fun j5 ej5 hf => ?_)
    have hj5 : ∀ (x2 : Int32) (x3 : Int32) (μ4 : gM) (H : Heap) (locs : List Loc) (ls : Array Slot), j5 x2 x3 μ4 = some r → gWd Γ A μ0.1 ad μ4 s.heap H locs → lv_has ls 2 [(0, .int x2), (1, .int x3)] → W p l e ({ frames := 0, cells := 0, slots := 0, locals := 0 } : Room) s m args below meth c H locs 0 0 (MQ below (gQ0 Γ ad μ0.1 r A) args s 0 0 A) (F0 m 34 ls []) := by
      intro x2 x3 μ4 H locs ls hf h hl
      rw [ej5] at hf
      refine lv_iload_n X.hx X.hb dJ11_numberOfTrailingZeros_34 rfl (lv_at hl 0 rfl) ?_
      refine lv_sipush (v := 256) X.hx X.hb dJ11_numberOfTrailingZeros_35 (by decide) ?_
      refine r_jn hf (fun j9 ej9 hf => ?_)
      have hj9 : ∀ (x6 : Int32) (x7 : Int32) (μ8 : gM) (H : Heap) (locs : List Loc) (ls : Array Slot), j9 x6 x7 μ8 = some r → gWd Γ A μ0.1 ad μ8 s.heap H locs → lv_has ls 2 [(0, .int x6), (1, .int x7)] → W p l e ({ frames := 0, cells := 0, slots := 0, locals := 0 } : Room) s m args below meth c H locs 0 0 (MQ below (gQ0 Γ ad μ0.1 r A) args s 0 0 A) (F0 m 49 ls []) := by
        intro x6 x7 μ8 H locs ls hf h hl
        rw [ej9] at hf
        refine lv_iload_n X.hx X.hb dJ11_numberOfTrailingZeros_49 rfl (lv_at hl 0 rfl) ?_
        refine lv_bipush (v := 16) X.hx X.hb dJ11_numberOfTrailingZeros_50 (by decide) ?_
        refine r_jn hf (fun j13 ej13 hf => ?_)
        have hj13 : ∀ (x10 : Int32) (x11 : Int32) (μ12 : gM) (H : Heap) (locs : List Loc) (ls : Array Slot), j13 x10 x11 μ12 = some r → gWd Γ A μ0.1 ad μ12 s.heap H locs → lv_has ls 2 [(0, .int x10), (1, .int x11)] → W p l e ({ frames := 0, cells := 0, slots := 0, locals := 0 } : Room) s m args below meth c H locs 0 0 (MQ below (gQ0 Γ ad μ0.1 r A) args s 0 0 A) (F0 m 62 ls []) := by
          intro x10 x11 μ12 H locs ls hf h hl
          rw [ej13] at hf
          refine lv_iload_n X.hx X.hb dJ11_numberOfTrailingZeros_62 rfl (lv_at hl 0 rfl) ?_
          refine lv_iconst (v := 4) X.hx X.hb dJ11_numberOfTrailingZeros_63 (by decide) ?_
          refine r_jn hf (fun j17 ej17 hf => ?_)
          have hj17 : ∀ (x14 : Int32) (x15 : Int32) (μ16 : gM) (H : Heap) (locs : List Loc) (ls : Array Slot), j17 x14 x15 μ16 = some r → gWd Γ A μ0.1 ad μ16 s.heap H locs → lv_has ls 2 [(0, .int x14), (1, .int x15)] → W p l e ({ frames := 0, cells := 0, slots := 0, locals := 0 } : Room) s m args below meth c H locs 0 0 (MQ below (gQ0 Γ ad μ0.1 r A) args s 0 0 A) (F0 m 74 ls []) := by
            intro x14 x15 μ16 H locs ls hf h hl
            rw [ej17] at hf
            refine lv_iload_n X.hx X.hb dJ11_numberOfTrailingZeros_74 rfl (lv_at hl 1 rfl) ?_
            refine lv_iload_n X.hx X.hb dJ11_numberOfTrailingZeros_75 rfl (lv_at hl 0 rfl) ?_
            refine lv_iconst (v := 1) X.hx X.hb dJ11_numberOfTrailingZeros_76 (by decide) ?_
            refine lv_iushr X.hx X.hb dJ11_numberOfTrailingZeros_77 rfl ?_
            refine lv_iadd X.hx X.hb dJ11_numberOfTrailingZeros_78 ?_
            exact r_ri X h hr hlk (Nat.le_of_ble_eq_true rfl) (Nat.le_of_ble_eq_true rfl) dJ11_numberOfTrailingZeros_79 hf
          clear ej17
          refine lv_icmp_le (tgt := 74) X.hx X.hb dJ11_numberOfTrailingZeros_64 (by decide) (fun hc => ?_) (fun hc => ?_)
          · replace hf := gif_t hf hc
            clear hc
            exact hj17 _ _ _ _ _ _ hf h (lv_sub hl [0, 1] rfl)
          · replace hf := gif_f hf hc
            clear hc
            refine r_nmk hf (fun x18 ex hf => ?_)
            refine lv_iinc (v := x18) (lv' := [(1, .int x18), (0, .int x10)]) X.hx X.hb dJ11_numberOfTrailingZeros_67 hl (k := 1) rfl (by rw [ex]; rfl) (by decide) rfl (fun ls hl => ?_)
            clear ex
            refine lv_iload_n X.hx X.hb dJ11_numberOfTrailingZeros_70 rfl (lv_at hl 1 rfl) ?_
            refine lv_iconst (v := 2) X.hx X.hb dJ11_numberOfTrailingZeros_71 (by decide) ?_
            refine lv_iushr X.hx X.hb dJ11_numberOfTrailingZeros_72 rfl ?_
            refine r_nmI hf (fun x19 hf => ?_)
            refine lv_istore_n (lv' := [(0, .int x19), (1, .int x18)]) X.hx X.hb dJ11_numberOfTrailingZeros_73 rfl hl (by decide) rfl (fun ls hl => ?_)
            exact hj17 _ _ _ _ _ _ hf h (lv_sub hl [0, 1] rfl)
        clear ej13
        refine lv_icmp_le (tgt := 62) X.hx X.hb dJ11_numberOfTrailingZeros_52 (by decide) (fun hc => ?_) (fun hc => ?_)
        · replace hf := gif_t hf hc
          clear hc
          exact hj13 _ _ _ _ _ _ hf h (lv_sub hl [0, 1] rfl)
        · replace hf := gif_f hf hc
          clear hc
          refine r_nmk hf (fun x20 ex hf => ?_)
          refine lv_iinc (v := x20) (lv' := [(1, .int x20), (0, .int x6)]) X.hx X.hb dJ11_numberOfTrailingZeros_55 hl (k := 1) rfl (by rw [ex]; rfl) (by decide) rfl (fun ls hl => ?_)
          clear ex
          refine lv_iload_n X.hx X.hb dJ11_numberOfTrailingZeros_58 rfl (lv_at hl 1 rfl) ?_
          refine lv_iconst (v := 4) X.hx X.hb dJ11_numberOfTrailingZeros_59 (by decide) ?_
          refine lv_iushr X.hx X.hb dJ11_numberOfTrailingZeros_60 rfl ?_
          refine r_nmI hf (fun x21 hf => ?_)
          refine lv_istore_n (lv' := [(0, .int x21), (1, .int x20)]) X.hx X.hb dJ11_numberOfTrailingZeros_61 rfl hl (by decide) rfl (fun ls hl => ?_)
          exact hj13 _ _ _ _ _ _ hf h (lv_sub hl [0, 1] rfl)
      clear ej9
      refine lv_icmp_le (tgt := 49) X.hx X.hb dJ11_numberOfTrailingZeros_38 (by decide) (fun hc => ?_) (fun hc => ?_)
      · replace hf := gif_t hf hc
        clear hc
        exact hj9 _ _ _ _ _ _ hf h (lv_sub hl [0, 1] rfl)
      · replace hf := gif_f hf hc
        clear hc
        refine r_nmk hf (fun x22 ex hf => ?_)
        refine lv_iinc (v := x22) (lv' := [(1, .int x22), (0, .int x2)]) X.hx X.hb dJ11_numberOfTrailingZeros_41 hl (k := 1) rfl (by rw [ex]; rfl) (by decide) rfl (fun ls hl => ?_)
        clear ex
        refine lv_iload_n X.hx X.hb dJ11_numberOfTrailingZeros_44 rfl (lv_at hl 1 rfl) ?_
        refine lv_bipush (v := 8) X.hx X.hb dJ11_numberOfTrailingZeros_45 (by decide) ?_
        refine lv_iushr X.hx X.hb dJ11_numberOfTrailingZeros_47 rfl ?_
        refine r_nmI hf (fun x23 hf => ?_)
        refine lv_istore_n (lv' := [(0, .int x23), (1, .int x22)]) X.hx X.hb dJ11_numberOfTrailingZeros_48 rfl hl (by decide) rfl (fun ls hl => ?_)
        exact hj9 _ _ _ _ _ _ hf h (lv_sub hl [0, 1] rfl)
    clear ej5
    refine lv_icmp_le (tgt := 34) X.hx X.hb dJ11_numberOfTrailingZeros_23 (by decide) (fun hc => ?_) (fun hc => ?_)
    · replace hf := gif_t hf hc
      clear hc
      exact hj5 _ _ _ _ _ _ hf h (lv_sub hl [1, 0] rfl)
    · replace hf := gif_f hf hc
      clear hc
      refine r_nmk hf (fun x24 ex hf => ?_)
      refine lv_iinc (v := x24) (lv' := [(1, .int x24), (0, .int x1)]) X.hx X.hb dJ11_numberOfTrailingZeros_26 hl (k := 0) rfl (by rw [ex]; rfl) (by decide) rfl (fun ls hl => ?_)
      clear ex
      refine lv_iload_n X.hx X.hb dJ11_numberOfTrailingZeros_29 rfl (lv_at hl 1 rfl) ?_
      refine lv_bipush (v := 16) X.hx X.hb dJ11_numberOfTrailingZeros_30 (by decide) ?_
      refine lv_iushr X.hx X.hb dJ11_numberOfTrailingZeros_32 rfl ?_
      refine r_nmI hf (fun x25 hf => ?_)
      refine lv_istore_n (lv' := [(0, .int x25), (1, .int x24)]) X.hx X.hb dJ11_numberOfTrailingZeros_33 rfl hl (by decide) rfl (fun ls hl => ?_)
      exact hj5 _ _ _ _ _ _ hf h (lv_sub hl [0, 1] rfl)
  · replace hf := gif_f hf hc
    clear hc
    refine lv_iload_n X.hx X.hb dJ11_numberOfTrailingZeros_12 rfl (lv_at hl 0 rfl) ?_
    refine lv_bipush (v := 32) X.hx X.hb dJ11_numberOfTrailingZeros_13 (by decide) ?_
    refine lv_iand X.hx X.hb dJ11_numberOfTrailingZeros_15 ?_
    exact r_ri X h hr hlk (Nat.le_of_ble_eq_true rfl) (Nat.le_of_ble_eq_true rfl) dJ11_numberOfTrailingZeros_16 hf
/-! X0_wind -/
def fX0_wind_L91 (b0 : Nat) (a1 : Int32) (x15 : Int64) (x11 : Int32) (kx111 : Int32 → gM → gR) : Nat → Int32 → Int32 → gM → gR
  | 0, _, _, _ => none
  | n22 + 1, x19, x20, μ21 => if x20 ≤ 0 then (kx111 x19 μ21) else (gnm ((x19 &&& (x19 - 1))) fun x23 => gnm (x20 + (-1)) fun x24 => fX0_wind_L91 b0 a1 x15 x11 kx111 n22 x23 x24 μ21)
set_option maxHeartbeats 4000000 in
theorem wX0_wind_L91 {p : Program} {e : Env} {s : State} {m : MethodId} {args : Array Value} {below : List Frame} {meth : Method} {c : Code} {Γ : gG} {A : Nat → Prop} {nz : Nat} {ad : Nat → Nat} {r : Option Value × gM} (l : Launch) (b0 : Nat) (a1 : Int32) (x15 : Int64) (x11 : Int32) (kx111 : Int32 → gM → gR) (X : gX p m c cX0_wind 8 s args "SandPiano" Γ A) (hr : meth.sig.returnType = (some .int)) (hlk : meth.locks = false) (hk111 : ∀ (x25 : Int32) (μ : gM) (H : Heap) (locs : List Loc) (ls : Array Slot), kx111 x25 μ = some r → gWd Γ A nz ad μ s.heap H locs → lv_has ls 8 [(0, .ref (ad b0)), (1, .int a1), (3, .long x15), (5, .int x11), (6, .int x25)] → W p l e ({ frames := 5, cells := 0, slots := 0, locals := 104 } : Room) s m args below meth c H locs 0 0 (MQ below (gQ0 Γ ad nz r A) args s 0 0 A) (F0 m 111 ls [])) : ∀ (n22 : Nat) (x19 : Int32) (x20 : Int32) (μ21 : gM) (H : Heap) (locs : List Loc) (ls : Array Slot), fX0_wind_L91 b0 a1 x15 x11 kx111 n22 x19 x20 μ21 = some r → gWd Γ A nz ad μ21 s.heap H locs → lv_has ls 8 [(0, .ref (ad b0)), (1, .int a1), (3, .long x15), (5, .int x11), (6, .int x19), (7, .int x20)] → W p l e ({ frames := 5, cells := 0, slots := 0, locals := 104 } : Room) s m args below meth c H locs 0 0 (MQ below (gQ0 Γ ad nz r A) args s 0 0 A) (F0 m 91 ls []) := by
  intro n22
  induction n22 with
  | zero =>
    intro x19 x20 μ21 H locs ls hf h hl
    have hf : (none : gR) = some r := hf
    cases hf
  | succ n22 ih =>
    intro x19 x20 μ21 H locs ls hf h hl
    rw [fX0_wind_L91] at hf
    refine lv_iload X.hx X.hb dX0_wind_91 (lv_at hl 5 rfl) ?_
    refine lv_if_le (tgt := 111) X.hx X.hb dX0_wind_93 (by decide) (fun hc => ?_) (fun hc => ?_)
    · replace hf := gif_t hf hc
      clear hc
      exact hk111 _ _ _ _ _ hf h (lv_sub hl [0, 1, 2, 3, 4] rfl)
    · replace hf := gif_f hf hc
      clear hc
      refine lv_iload X.hx X.hb dX0_wind_96 (lv_at hl 4 rfl) ?_
      refine lv_iload X.hx X.hb dX0_wind_98 (lv_at hl 4 rfl) ?_
      refine lv_iconst (v := 1) X.hx X.hb dX0_wind_100 (by decide) ?_
      refine lv_isub X.hx X.hb dX0_wind_101 ?_
      refine lv_iand X.hx X.hb dX0_wind_102 ?_
      refine r_nmI hf (fun x23 hf => ?_)
      refine lv_istore (lv' := [(6, .int x23), (0, .ref (ad b0)), (1, .int a1), (3, .long x15), (5, .int x11), (7, .int x20)]) X.hx X.hb dX0_wind_103 hl (by decide) rfl (fun ls hl => ?_)
      refine r_nmk hf (fun x24 ex hf => ?_)
      refine lv_iinc (v := x24) (lv' := [(7, .int x24), (6, .int x23), (0, .ref (ad b0)), (1, .int a1), (3, .long x15), (5, .int x11)]) X.hx X.hb dX0_wind_105 hl (k := 5) rfl (by rw [ex]; rfl) (by decide) rfl (fun ls hl => ?_)
      clear ex
      refine lv_goto (tgt := 91) X.hx X.hb dX0_wind_108 (by decide) ?_
      exact ih _ _ _ _ _ _ hf h (lv_sub hl [2, 3, 4, 5, 1, 0] rfl)
def fX0_wind_L59 (b0 : Nat) (a1 : Int32) : Nat → Int64 → Int32 → Int32 → gM → gR
  | 0, _, _, _, _ => none
  | n14 + 1, x10, x11, x12, μ13 => if a1 ≤ x11 then (some (some (.int x11), μ13)) else (if x12 = 0 then (some (some (.int x11), μ13)) else (gnm (((48271 * x10) - (48271 * x10) / 2147483647 * 2147483647)) fun x15 => cI (fJ11_bitCount μ13 x12) fun x16 μ17 => gne ((x16 : Int32).toInt64) 0 <| gnm ((((x15 - x15 / ((x16 : Int32).toInt64) * ((x16 : Int32).toInt64)) : Int64).toInt32)) fun x18 => fX0_wind_L91 b0 a1 x15 x11 (fun (x26 : Int32) (μ27 : gM) => gis μ27 b0 0 <| cV (fX0_note μ27 b0) fun μ28 => gP (gfld μ28 b0 0 10) fun i29 => cI (fJ11_numberOfTrailingZeros μ28 x26) fun x30 μ31 => gis μ31 b0 0 <| cV (fX0_playIn μ31 b0 i29 x30) fun μ32 => gnm (x11 + 1) fun x33 => gis μ32 b0 0 <| cI (fX0_playable μ32 b0) fun x34 μ35 => fX0_wind_L59 b0 a1 n14 x15 x33 x34 μ35) 10000 x12 x18 μ17))
set_option maxHeartbeats 4000000 in
theorem wX0_wind_L59 {p : Program} {e : Env} {s : State} {m : MethodId} {args : Array Value} {below : List Frame} {meth : Method} {c : Code} {Γ : gG} {A : Nat → Prop} {nz : Nat} {ad : Nat → Nat} {r : Option Value × gM} (l : Launch) (b0 : Nat) (a1 : Int32) (X : gX p m c cX0_wind 8 s args "SandPiano" Γ A) (hr : meth.sig.returnType = (some .int)) (hlk : meth.locks = false) : ∀ (n14 : Nat) (x10 : Int64) (x11 : Int32) (x12 : Int32) (μ13 : gM) (H : Heap) (locs : List Loc) (ls : Array Slot), fX0_wind_L59 b0 a1 n14 x10 x11 x12 μ13 = some r → gWd Γ A nz ad μ13 s.heap H locs → lv_has ls 8 [(0, .ref (ad b0)), (1, .int a1), (3, .long x10), (5, .int x11), (6, .int x12)] → W p l e ({ frames := 5, cells := 0, slots := 0, locals := 104 } : Room) s m args below meth c H locs 0 0 (MQ below (gQ0 Γ ad nz r A) args s 0 0 A) (F0 m 59 ls []) := by
  intro n14
  induction n14 with
  | zero =>
    intro x10 x11 x12 μ13 H locs ls hf h hl
    have hf : (none : gR) = some r := hf
    cases hf
  | succ n14 ih =>
    intro x10 x11 x12 μ13 H locs ls hf h hl
    rw [fX0_wind_L59] at hf
    refine lv_iload X.hx X.hb dX0_wind_59 (lv_at hl 3 rfl) ?_
    refine lv_iload_n X.hx X.hb dX0_wind_61 rfl (lv_at hl 1 rfl) ?_
    refine lv_icmp_ge (tgt := 140) X.hx X.hb dX0_wind_62 (by decide) (fun hc => ?_) (fun hc => ?_)
    · replace hf := gif_t hf hc
      clear hc
      refine lv_iload X.hx X.hb dX0_wind_140 (lv_at hl 3 rfl) ?_
      exact r_ri X h hr hlk (Nat.le_of_ble_eq_true rfl) (Nat.le_of_ble_eq_true rfl) dX0_wind_142 hf
    · replace hf := gif_f hf hc
      clear hc
      refine lv_iload X.hx X.hb dX0_wind_65 (lv_at hl 4 rfl) ?_
      refine lv_if_eq (tgt := 140) X.hx X.hb dX0_wind_67 (by decide) (fun hc => ?_) (fun hc => ?_)
      · replace hf := gif_t hf hc
        clear hc
        refine lv_iload X.hx X.hb dX0_wind_140 (lv_at hl 3 rfl) ?_
        exact r_ri X h hr hlk (Nat.le_of_ble_eq_true rfl) (Nat.le_of_ble_eq_true rfl) dX0_wind_142 hf
      · replace hf := gif_f hf hc
        clear hc
        refine lv_ldc2 (v := 48271) X.hx X.hb X.hown (X.hts _ q972) dX0_wind_70 ?_
        refine lv_lload_n X.hx X.hb dX0_wind_73 rfl (lv_at hl 2 rfl) ?_
        refine lv_lmul X.hx X.hb dX0_wind_74 ?_
        refine lv_ldc2 (v := 2147483647) X.hx X.hb X.hown (X.hts _ q973) dX0_wind_75 ?_
        refine lv_lrem X.hx X.hb dX0_wind_78 (by decide) ?_
        refine r_nmJ hf (fun x15 hf => ?_)
        refine lv_lstore_n (lv' := [(3, .long x15), (0, .ref (ad b0)), (1, .int a1), (5, .int x11), (6, .int x12)]) X.hx X.hb dX0_wind_79 rfl hl (by decide) rfl (fun ls hl => ?_)
        refine lv_lload_n X.hx X.hb dX0_wind_80 rfl (lv_at hl 0 rfl) ?_
        refine lv_iload X.hx X.hb dX0_wind_81 (lv_at hl 4 rfl) ?_
        refine r_cSI (As := [.int x12]) (rest := [.long x15]) X h hf (fun res hres => wJ11_bitCount l Γ ad _ x12 res hres) (va_cwS 1 X.hts (lw_S q944 q705 q103 q706) rfl rfl rfl (by decide +kernel) ⟨Nat.le_of_ble_eq_true rfl, Nat.le_of_ble_eq_true rfl⟩) rfl ⟨hl.1, Nat.le_of_ble_eq_true rfl, Nat.le_of_ble_eq_true rfl, Nat.le_of_ble_eq_true rfl⟩ rfl dX0_wind_83 (fun x16 μ17 H locs hf h => ?_)
        refine lv_i2l X.hx X.hb dX0_wind_86 rfl ?_
        obtain ⟨hne, hf⟩ := gne_some hf
        refine lv_lrem X.hx X.hb dX0_wind_87 hne ?_
        refine lv_l2i X.hx X.hb dX0_wind_88 rfl ?_
        refine r_nmI hf (fun x18 hf => ?_)
        refine lv_istore (lv' := [(7, .int x18), (3, .long x15), (0, .ref (ad b0)), (1, .int a1), (5, .int x11), (6, .int x12)]) X.hx X.hb dX0_wind_89 hl (by decide) rfl (fun ls hl => ?_)
        refine wX0_wind_L91 l b0 a1 x15 x11 _ X hr hlk (fun x26 μ27 H locs ls hf h hl => ?_) 10000 _ _ _ _ _ _ hf h (lv_sub hl [2, 3, 1, 4, 5, 0] rfl)
        refine lv_aload_n X.hx X.hb dX0_wind_111 rfl (lv_at hl 0 rfl) ?_
        refine r_cVV (As := []) (rest := []) (C := RX0) (T := TX0) (N := 36) X h hf (fun res hres => wX0_note l Γ ad _ b0 res hres) rfl (cwV 0 X.hts (lw_V q718 q720 qs13 q82 q721) rfl rfl rfl (by decide +kernel) ⟨Nat.le_of_ble_eq_true rfl, Nat.le_of_ble_eq_true rfl⟩) rfl ⟨hl.1, Nat.le_of_ble_eq_true rfl, Nat.le_of_ble_eq_true rfl, Nat.le_of_ble_eq_true rfl⟩ rfl dX0_wind_112 (fun μ28 H locs hf h => ?_)
        refine lv_aload_n X.hx X.hb dX0_wind_115 rfl (lv_at hl 0 rfl) ?_
        refine lv_aload_n X.hx X.hb dX0_wind_116 rfl (lv_at hl 0 rfl) ?_
        refine r_getP X h (ci := 0) (k := 10) (C := RX0) (T := TX0) (N := 36) rfl in_X0 (by decide) q152 rfl dX0_wind_117 hf (fun i29 hf => ?_)
        refine lv_iload X.hx X.hb dX0_wind_120 (lv_at hl 4 rfl) ?_
        refine r_cSI (As := [.int x26]) (rest := [.ref (ad i29), .ref (ad b0)]) X h hf (fun res hres => wJ11_numberOfTrailingZeros l Γ ad _ x26 res hres) (va_cwS 1 X.hts (lw_S q974 q975 q103 q976) rfl rfl rfl (by decide +kernel) ⟨Nat.le_of_ble_eq_true rfl, Nat.le_of_ble_eq_true rfl⟩) rfl ⟨hl.1, Nat.le_of_ble_eq_true rfl, Nat.le_of_ble_eq_true rfl, Nat.le_of_ble_eq_true rfl⟩ rfl dX0_wind_122 (fun x30 μ31 H locs hf h => ?_)
        refine r_cVV (As := [.ref (ad i29), .int x30]) (rest := []) (C := RX0) (T := TX0) (N := 36) X h hf (fun res hres => wX0_playIn l Γ ad _ b0 i29 x30 res hres) rfl (cwV 2 X.hts (lw_V q722 q724 qs14 q82 q725) rfl rfl rfl (by decide +kernel) ⟨Nat.le_of_ble_eq_true rfl, Nat.le_of_ble_eq_true rfl⟩) rfl ⟨hl.1, Nat.le_of_ble_eq_true rfl, Nat.le_of_ble_eq_true rfl, Nat.le_of_ble_eq_true rfl⟩ rfl dX0_wind_125 (fun μ32 H locs hf h => ?_)
        refine r_nmk hf (fun x33 ex hf => ?_)
        refine lv_iinc (v := x33) (lv' := [(5, .int x33), (0, .ref (ad b0)), (1, .int a1), (3, .long x15), (6, .int x26)]) X.hx X.hb dX0_wind_128 hl (k := 3) rfl (by rw [ex]; rfl) (by decide) rfl (fun ls hl => ?_)
        clear ex
        refine lv_aload_n X.hx X.hb dX0_wind_131 rfl (lv_at hl 1 rfl) ?_
        refine r_cVI (As := []) (rest := []) (C := RX0) (T := TX0) (N := 36) X h hf (fun res hres => wX0_playable l Γ ad _ b0 res hres) rfl (cwV 0 X.hts (lw_V q802 q698 qs11 q82 q699) rfl rfl rfl (by decide +kernel) ⟨Nat.le_of_ble_eq_true rfl, Nat.le_of_ble_eq_true rfl⟩) rfl ⟨hl.1, Nat.le_of_ble_eq_true rfl, Nat.le_of_ble_eq_true rfl, Nat.le_of_ble_eq_true rfl⟩ rfl dX0_wind_132 (fun x34 μ35 H locs hf h => ?_)
        refine lv_istore (lv' := [(6, .int x34), (5, .int x33), (0, .ref (ad b0)), (1, .int a1), (3, .long x15)]) X.hx X.hb dX0_wind_135 hl (by decide) rfl (fun ls hl => ?_)
        refine lv_goto (tgt := 59) X.hx X.hb dX0_wind_137 (by decide) ?_
        exact ih _ _ _ _ _ _ _ hf h (lv_sub hl [2, 3, 4, 1, 0] rfl)
def fX0_wind (μ0 : gM) (b0 : Nat) (a1 : Int32) (a2 : Int32) : gR := cI (fX0_isIn μ0 a1 1 60) fun x1 μ2 => if x1 = 0 then (some (some (.int (-1)), μ2)) else (cI (fX0_isIn μ2 a2 1 2147483646) fun x3 μ4 => if x3 = 0 then (some (some (.int (-1)), μ4)) else (gI (gfld μ4 b0 0 7) fun x5 => if x5 = 0 then (some (some (.int (-4)), μ4)) else (gI (gfld μ4 b0 0 19) fun x6 => if (x6 + a1) ≤ 60 then (gnm (((a2 : Int32).toInt64)) fun x7 => gis μ4 b0 0 <| cI (fX0_playable μ4 b0) fun x8 μ9 => fX0_wind_L59 b0 a1 10000 x7 0 x8 μ9) else (some (some (.int (-2)), μ4)))))
set_option maxHeartbeats 4000000 in
theorem wX0_wind (l : Launch) (Γ : gG) (ad : Nat → Nat) (μ0 : gM) (b0 : Nat) (a1 : Int32) (a2 : Int32) (r : Option Value × gM) (hf : fX0_wind μ0 b0 a1 a2 = some r) : gMt0 l Γ yX0_wind (ws_ yX0_wind cX0_wind 8 (some .int)) ({ frames := 5, cells := 0, slots := 0, locals := 104 } : Room) 0 0 ad μ0 [.ref (ad b0), .int a1, .int a2] r := by
  intro sz
  refine g_start (maxL := 8) (ret := (some .int)) (by decide) rfl g_all (Nat.le_of_ble_eq_true rfl) ?_
  intro p e s m below meth c ls hr hlk hnm X h hl
  generalize gA ad μ0 sz = A at X h ⊢
  generalize ([.ref (ad b0), .int a1, .int a2] : List Value).toArray = args at X ⊢
  have X : gX p m c cX0_wind 8 s args "SandPiano" Γ A := X
  have hl : lv_has ls 8 [(0, .ref (ad b0)), (1, .int a1), (2, .int a2)] := hl
  show W p l e ({ frames := 5, cells := 0, slots := 0, locals := 104 } : Room) s m args below meth c s.heap [] 0 0 (MQ below (gQ0 Γ ad μ0.1 r A) args s 0 0 A) (F0 m 0 ls [])
  unfold fX0_wind at hf
  refine lv_iload_n X.hx X.hb dX0_wind_0 rfl (lv_at hl 1 rfl) ?_
  refine lv_iconst (v := 1) X.hx X.hb dX0_wind_1 (by decide) ?_
  refine lv_bipush (v := 60) X.hx X.hb dX0_wind_2 (by decide) ?_
  refine r_cSI (As := [.int a1, .int 1, .int 60]) (rest := []) X h hf (fun res hres => wX0_isIn l Γ ad _ a1 1 60 res hres) (va_cwS 3 X.hts (lw_S q344 q345 q82 q346) rfl rfl rfl (by decide +kernel) ⟨Nat.le_of_ble_eq_true rfl, Nat.le_of_ble_eq_true rfl⟩) rfl ⟨hl.1, Nat.le_of_ble_eq_true rfl, Nat.le_of_ble_eq_true rfl, Nat.le_of_ble_eq_true rfl⟩ rfl dX0_wind_4 (fun x1 μ2 H locs hf h => ?_)
  refine lv_if_eq (tgt := 21) X.hx X.hb dX0_wind_7 (by decide) (fun hc => ?_) (fun hc => ?_)
  · replace hf := gif_t hf hc
    clear hc
    refine lv_iconst (v := (-1)) X.hx X.hb dX0_wind_21 (by decide) ?_
    exact r_ri X h hr hlk (Nat.le_of_ble_eq_true rfl) (Nat.le_of_ble_eq_true rfl) dX0_wind_22 hf
  · replace hf := gif_f hf hc
    clear hc
    refine lv_iload_n X.hx X.hb dX0_wind_10 rfl (lv_at hl 2 rfl) ?_
    refine lv_iconst (v := 1) X.hx X.hb dX0_wind_11 (by decide) ?_
    refine r_ldcw X (v := 2147483646) q971 dX0_wind_12 ?_
    refine r_cSI (As := [.int a2, .int 1, .int 2147483646]) (rest := []) X h hf (fun res hres => wX0_isIn l Γ ad _ a2 1 2147483646 res hres) (va_cwS 3 X.hts (lw_S q344 q345 q82 q346) rfl rfl rfl (by decide +kernel) ⟨Nat.le_of_ble_eq_true rfl, Nat.le_of_ble_eq_true rfl⟩) rfl ⟨hl.1, Nat.le_of_ble_eq_true rfl, Nat.le_of_ble_eq_true rfl, Nat.le_of_ble_eq_true rfl⟩ rfl dX0_wind_15 (fun x3 μ4 H locs hf h => ?_)
    refine lv_if_ne (tgt := 23) X.hx X.hb dX0_wind_18 (by decide) (fun hc => ?_) (fun hc => ?_)
    · replace hf := gif_f hf hc
      clear hc
      refine lv_aload_n X.hx X.hb dX0_wind_23 rfl (lv_at hl 0 rfl) ?_
      refine r_getI X h (ci := 0) (k := 7) (C := RX0) (T := TX0) (N := 36) rfl in_X0 (by decide) q149 rfl dX0_wind_24 hf (fun x5 hf => ?_)
      refine lv_if_ne (tgt := 33) X.hx X.hb dX0_wind_27 (by decide) (fun hc => ?_) (fun hc => ?_)
      · replace hf := gif_f hf hc
        clear hc
        refine lv_aload_n X.hx X.hb dX0_wind_33 rfl (lv_at hl 0 rfl) ?_
        refine r_getI X h (ci := 0) (k := 19) (C := RX0) (T := TX0) (N := 36) rfl in_X0 (by decide) q161 rfl dX0_wind_34 hf (fun x6 hf => ?_)
        refine lv_iload_n X.hx X.hb dX0_wind_37 rfl (lv_at hl 1 rfl) ?_
        refine lv_iadd X.hx X.hb dX0_wind_38 ?_
        refine lv_bipush (v := 60) X.hx X.hb dX0_wind_39 (by decide) ?_
        refine lv_icmp_le (tgt := 47) X.hx X.hb dX0_wind_41 (by decide) (fun hc => ?_) (fun hc => ?_)
        · replace hf := gif_t hf hc
          clear hc
          refine lv_iload_n X.hx X.hb dX0_wind_47 rfl (lv_at hl 2 rfl) ?_
          refine lv_i2l X.hx X.hb dX0_wind_48 rfl ?_
          refine r_nmJ hf (fun x7 hf => ?_)
          refine lv_lstore_n (lv' := [(3, .long x7), (0, .ref (ad b0)), (1, .int a1), (2, .int a2)]) X.hx X.hb dX0_wind_49 rfl hl (by decide) rfl (fun ls hl => ?_)
          refine lv_iconst (v := 0) X.hx X.hb dX0_wind_50 (by decide) ?_
          refine lv_istore (lv' := [(5, .int 0), (3, .long x7), (0, .ref (ad b0)), (1, .int a1), (2, .int a2)]) X.hx X.hb dX0_wind_51 hl (by decide) rfl (fun ls hl => ?_)
          refine lv_aload_n X.hx X.hb dX0_wind_53 rfl (lv_at hl 2 rfl) ?_
          refine r_cVI (As := []) (rest := []) (C := RX0) (T := TX0) (N := 36) X h hf (fun res hres => wX0_playable l Γ ad _ b0 res hres) rfl (cwV 0 X.hts (lw_V q802 q698 qs11 q82 q699) rfl rfl rfl (by decide +kernel) ⟨Nat.le_of_ble_eq_true rfl, Nat.le_of_ble_eq_true rfl⟩) rfl ⟨hl.1, Nat.le_of_ble_eq_true rfl, Nat.le_of_ble_eq_true rfl, Nat.le_of_ble_eq_true rfl⟩ rfl dX0_wind_54 (fun x8 μ9 H locs hf h => ?_)
          refine lv_istore (lv' := [(6, .int x8), (5, .int 0), (3, .long x7), (0, .ref (ad b0)), (1, .int a1), (2, .int a2)]) X.hx X.hb dX0_wind_57 hl (by decide) rfl (fun ls hl => ?_)
          refine wX0_wind_L59 l b0 a1 X hr hlk 10000 _ _ _ _ _ _ _ hf h (lv_sub hl [3, 4, 2, 1, 0] rfl)
        · replace hf := gif_f hf hc
          clear hc
          refine lv_bipush (v := (-2)) X.hx X.hb dX0_wind_44 (by decide) ?_
          exact r_ri X h hr hlk (Nat.le_of_ble_eq_true rfl) (Nat.le_of_ble_eq_true rfl) dX0_wind_46 hf
      · replace hf := gif_t hf hc
        clear hc
        refine lv_bipush (v := (-4)) X.hx X.hb dX0_wind_30 (by decide) ?_
        exact r_ri X h hr hlk (Nat.le_of_ble_eq_true rfl) (Nat.le_of_ble_eq_true rfl) dX0_wind_32 hf
    · replace hf := gif_t hf hc
      clear hc
      refine lv_iconst (v := (-1)) X.hx X.hb dX0_wind_21 (by decide) ?_
      exact r_ri X h hr hlk (Nat.le_of_ble_eq_true rfl) (Nat.le_of_ble_eq_true rfl) dX0_wind_22 hf
