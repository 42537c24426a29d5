set_option maxRecDepth 100000
theorem zF_RX9_32_12 : zF RX9 32 12 8 := ⟨RX9, TX9, 15, "SpoilMeadowsModel", rfl, in_X9, by decide, .inl q1610, .inl rfl⟩
theorem zP_RX9_32_12 : zP RX9 32 12 8 .int := ⟨RX9, TX9, 15, "SpoilMeadowsModel", tyX9, rfl, in_X9, by decide, .inl q1610, .inl rfl, tyX9_ok, nmX9, by decide +kernel, rfl⟩
theorem zF_RX9_7_12 : zF RX9 7 12 0 := ⟨RX9, TX9, 15, "SpoilMeadowsModel", rfl, in_X9, by decide, .inl q1602, .inl rfl⟩
theorem zL_RX9_132 : zLV RX9 132 RX9 yX9_stoppedFor cX9_stoppedFor 2 (Option.some Jvm.ClassFile.FieldType.int) 1 := ⟨.inl q1731, q1733, qs51, q103, rfl, q1734, ⟨by decide +kernel, by decide +kernel, by decide +kernel⟩⟩
theorem zF_RX9_16_12 : zF RX9 16 12 2 := ⟨RX9, TX9, 15, "SpoilMeadowsModel", rfl, in_X9, by decide, .inl q1604, .inl rfl⟩
theorem zF_RX9_40_12 : zF RX9 40 12 3 := ⟨RX9, TX9, 15, "SpoilMeadowsModel", rfl, in_X9, by decide, .inl q1605, .inl rfl⟩
theorem zL_RX9_43 : zLS RX9 43 yX9_copies cX9_copies 5 (Option.none : Option Jvm.ClassFile.FieldType) 4 := ⟨.inl q1661, q1662, q103, q1663, ⟨by decide +kernel, by decide +kernel, by decide +kernel⟩⟩
theorem zP_RX9_40_12 : zP RX9 40 12 3 .int := ⟨RX9, TX9, 15, "SpoilMeadowsModel", tyX9, rfl, in_X9, by decide, .inl q1605, .inl rfl, tyX9_ok, nmX9, by decide +kernel, rfl⟩
abbrev rm_X9_thrown : Room := { frames := 0, cells := 0, slots := 0, locals := 0 }
set_option maxHeartbeats 4000000 in
set_option maxRecDepth 100000 in
theorem m_X9_thrown (l : Launch) (g : zG) (x a0 a1 a2 a3 a4 a5 a6 : Nat) (k ty at_ tl : Nat) (thr val : Int32) (bF bC : Bool)  : zRO l yX9_thrown cX9_thrown 1 (Option.some Jvm.ClassFile.FieldType.int) rm_X9_thrown g [.ref x] (fun H => zH g ([[(x, .inr (12, [.ref a0, .ref a1, .ref a2, .int (nI k), .ref a3, .ref a4, .ref a5, .int (nI ty), .int thr, .int (nI at_), .int (zb bF), .int val, .ref a6, .int (nI tl), .int (zb bC)]))]] : List va_W) H) (.int thr) := by
  refine zRO.start (by decide) (Nat.le_of_ble_eq_true rfl) ?_
  intro zp ze s zm zbl zmt zc ls X hr hlocks hP hl hS hA0
  have hx := X.1
  have hb := X.2.1
  have hml := X.2.2.1
  have hown := X.2.2.2.1
  have hls := hl.1
  have hl : lv_has ls 1 [(0, .ref x)] := hl
  refine lv_aload_n hx hb dX9_thrown_0 rfl (lv_at hl 0 rfl) ?_
  refine z_get X (hP.at 0 0 rfl rfl) zF_RX9_32_12 rfl dX9_thrown_1 ?_
  refine zRO.iret X hr hlocks ?_ dX9_thrown_4
  rfl

abbrev rm_X9_fails : Room := { frames := 0, cells := 0, slots := 0, locals := 0 }
set_option maxHeartbeats 4000000 in
set_option maxRecDepth 100000 in
theorem m_X9_fails (l : Launch) (g : zG) (x a0 a1 a2 a3 a4 a5 a6 : Nat) (k ty at_ tl : Nat) (thr val : Int32) (bF bC : Bool) (q : Int32) (sz : Nat) : zWR l yX9_fails cX9_fails 2 (Option.some Jvm.ClassFile.FieldType.int) rm_X9_fails g [.ref x, .int q] ([[(x, .inr (12, [.ref a0, .ref a1, .ref a2, .int (nI k), .ref a3, .ref a4, .ref a5, .int (nI ty), .int thr, .int (nI at_), .int (zb bF), .int val, .ref a6, .int (nI tl), .int (zb bC)]))]] : List va_W) 0 0 sz (fun zv gs' => zv = some (.int (0)) ∧ gs' = [[(x, .inr (12, [.ref a0, .ref a1, .ref a2, .int (nI k), .ref a3, .ref a4, .ref a5, .int (nI ty), .int q, .int (nI at_), .int (zb bF), .int val, .ref a6, .int (nI tl), .int (zb bC)]))]]) := by
  refine zWR.start (by decide) (Nat.le_of_ble_eq_true rfl) ?_
  intro zp ze s zm zbl zmt zc ls A X hr hlocks hinn hl hAe hW hS hA hA0
  have hx := X.1
  have hb := X.2.1
  have hml := X.2.2.1
  have hown := X.2.2.2.1
  have hls := hl.1
  have hl : lv_has ls 2 [(0, .ref x), (1, .int q)] := hl
  refine lv_aload_n hx hb dX9_fails_0 rfl (lv_at hl 0 rfl) ?_
  refine lv_iload_n hx hb dX9_fails_1 rfl (lv_at hl 1 rfl) ?_
  refine z_put X hW hS 0 0 rfl rfl zP_RX9_32_12 rfl rfl (Nat.le_of_ble_eq_true rfl) dX9_fails_2 (fun H locs hW hS => ?_)
  have hW : zW g A ([[(x, .inr (12, [.ref a0, .ref a1, .ref a2, .int (nI k), .ref a3, .ref a4, .ref a5, .int (nI ty), .int q, .int (nI at_), .int (zb bF), .int val, .ref a6, .int (nI tl), .int (zb bC)]))]] : List va_W) H := hW
  refine lv_iconst (v := 0) hx hb dX9_fails_5 rfl ?_
  refine zWR.iret X hAe hW hS hr hlocks ?_ (Nat.le_of_ble_eq_true rfl) (Nat.le_of_ble_eq_true rfl) dX9_fails_6
  exact ⟨rfl, rfl⟩

abbrev rm_X9_isBarge : Room := { frames := 1, cells := 0, slots := 0, locals := 22 }
set_option maxHeartbeats 4000000 in
set_option maxRecDepth 100000 in
theorem m_X9_isBarge (l : Launch) (g : zG) (x a0 a1 a2 a3 a4 a5 a6 : Nat) (k ty at_ tl : Nat) (thr val : Int32) (bF bC : Bool) (f : Nat → Int32) (b : Int32) (n : Nat) (h6 : f 6 = nI n) : zRO l yX9_isBarge cX9_isBarge 2 (Option.some Jvm.ClassFile.FieldType.boolean) rm_X9_isBarge g [.ref x, .int b] (fun H => zH g ([[(x, .inr (12, [.ref a0, .ref a1, .ref a2, .int (nI k), .ref a3, .ref a4, .ref a5, .int (nI ty), .int thr, .int (nI at_), .int (zb bF), .int val, .ref a6, .int (nI tl), .int (zb bC)]))], [(a0, .inl (g.2.1 0, 89, .inl f))]] : List va_W) H) (.int (zb (m_in b 0 (nI n - 1)))) := by
  refine zRO.start (by decide) (Nat.le_of_ble_eq_true rfl) ?_
  intro zp ze s zm zbl zmt zc ls X hr hlocks hP hl hS hA0
  have hx := X.1
  have hb := X.2.1
  have hml := X.2.2.1
  have hown := X.2.2.2.1
  have hls := hl.1
  have hl : lv_has ls 2 [(0, .ref x), (1, .int b)] := hl
  refine lv_iload_n hx hb dX9_isBarge_0 rfl (lv_at hl 1 rfl) ?_
  refine lv_iconst (v := 0) hx hb dX9_isBarge_1 rfl ?_
  refine lv_aload_n hx hb dX9_isBarge_2 rfl (lv_at hl 0 rfl) ?_
  refine z_get X (hP.at 0 0 rfl rfl) zF_RX9_7_12 rfl dX9_isBarge_3 ?_
  refine lv_bipush (v := 6) hx hb dX9_isBarge_6 (by decide) ?_
  refine z_iald X (j := 6) (hP.at 1 0 rfl rfl) rfl (by omega) (by decide) dX9_isBarge_8 ?_
  refine z_stk (b := [.int (nI n), .int 0, .int b]) (by rw [show (f 6) = nI n from h6]) ?_
  refine lv_iconst (v := 1) hx hb dX9_isBarge_9 rfl ?_
  refine lv_isub hx hb dX9_isBarge_10 ?_
  refine zc_ro (zr_S (As := [.int b, .int 0, .int ((nI n) - 1)]) (rest := []) X (m_X9_in l g b 0 ((nI n) - 1)) zL_RX9_36 trivial hS hA0 hls rfl (Nat.le_of_ble_eq_true rfl) ⟨rfl, rfl, Nat.le_of_ble_eq_true rfl, Nat.le_of_ble_eq_true rfl, (Nat.le_of_ble_eq_true rfl), (Nat.le_of_ble_eq_true rfl)⟩ dX9_isBarge_11) ?_
  refine zRO.zret X hr (zb_nar _) hlocks ?_ dX9_isBarge_14
  rfl

abbrev rm_X9_changes : Room := { frames := 0, cells := 0, slots := 0, locals := 0 }
set_option maxHeartbeats 4000000 in
set_option maxRecDepth 100000 in
theorem m_X9_changes (l : Launch) (g : zG) (x a0 a1 a2 a3 a4 a5 a6 : Nat) (k ty at_ tl : Nat) (thr val : Int32) (bF bC : Bool) (f : Nat → Int32) (q : Nat) (v : Int32) (hq : q < 89) (sz : Nat) : zWR l yX9_changes cX9_changes 4 (Option.some Jvm.ClassFile.FieldType.int) rm_X9_changes g [.ref x, .int (nI q), .int v] ([[(x, .inr (12, [.ref a0, .ref a1, .ref a2, .int (nI k), .ref a3, .ref a4, .ref a5, .int (nI ty), .int thr, .int (nI at_), .int (zb bF), .int val, .ref a6, .int (nI tl), .int (zb bC)]))], [(a0, .inl (g.2.1 0, 89, .inl f))]] : List va_W) 0 0 sz (fun zv gs' => zv = some (.int (f q)) ∧ gs' = [[(x, .inr (12, [.ref a0, .ref a1, .ref a2, .int (nI k), .ref a3, .ref a4, .ref a5, .int (nI ty), .int thr, .int (nI at_), .int (zb bF), .int val, .ref a6, .int (nI tl), .int (zb bC)]))], [(a0, .inl (g.2.1 0, 89, .inl (upd f q v)))]]) := by
  refine zWR.start (by decide) (Nat.le_of_ble_eq_true rfl) ?_
  intro zp ze s zm zbl zmt zc ls A X hr hlocks hinn hl hAe hW hS hA hA0
  have hx := X.1
  have hb := X.2.1
  have hml := X.2.2.1
  have hown := X.2.2.2.1
  have hls := hl.1
  have hl : lv_has ls 4 [(0, .ref x), (1, .int (nI q)), (2, .int v)] := hl
  refine lv_aload_n hx hb dX9_changes_0 rfl (lv_at hl 0 rfl) ?_
  refine z_get X (hW.H.at 0 0 rfl rfl) zF_RX9_7_12 rfl dX9_changes_1 ?_
  refine lv_iload_n hx hb dX9_changes_4 rfl (lv_at hl 1 rfl) ?_
  refine z_iald X (j := q) (hW.H.at 1 0 rfl rfl) rfl (by omega) (by decide) dX9_changes_5 ?_
  refine lv_istore_n (lv' := [(3, .int (f q)), (0, .ref x), (1, .int (nI q)), (2, .int v)]) hx hb dX9_changes_6 rfl hl (by decide) rfl (fun ls hl => ?_)
  have hls := hl.1
  refine lv_aload_n hx hb dX9_changes_7 rfl (lv_at hl 1 rfl) ?_
  refine z_get X (hW.H.at 0 0 rfl rfl) zF_RX9_7_12 rfl dX9_changes_8 ?_
  refine lv_iload_n hx hb dX9_changes_11 rfl (lv_at hl 2 rfl) ?_
  refine lv_iload_n hx hb dX9_changes_12 rfl (lv_at hl 3 rfl) ?_
  refine z_iast X (j := q) hW hS 1 0 rfl rfl rfl (by omega) (by decide) dX9_changes_13 (fun H locs hW hS => ?_)
  have hW : zW g A ([[(x, .inr (12, [.ref a0, .ref a1, .ref a2, .int (nI k), .ref a3, .ref a4, .ref a5, .int (nI ty), .int thr, .int (nI at_), .int (zb bF), .int val, .ref a6, .int (nI tl), .int (zb bC)]))], [(a0, .inl (g.2.1 0, 89, .inl (upd f q v)))]] : List va_W) H := hW
  refine lv_iload_n hx hb dX9_changes_14 rfl (lv_at hl 0 rfl) ?_
  refine zWR.iret X hAe hW hS hr hlocks ?_ (Nat.le_of_ble_eq_true rfl) (Nat.le_of_ble_eq_true rfl) dX9_changes_15
  exact ⟨rfl, rfl⟩

abbrev rm_X9_stoppedFor : Room := { frames := 2, cells := 0, slots := 0, locals := 43 }
set_option maxHeartbeats 4000000 in
set_option maxRecDepth 100000 in
theorem m_X9_stoppedFor (l : Launch) (g : zG) (x a0 a1 a2 a3 a4 a5 a6 : Nat) (k ty at_ tl : Nat) (thr val : Int32) (bF bC : Bool) (f : Nat → Int32) (m : Nat) (hm : m < 5) : zRO l yX9_stoppedFor cX9_stoppedFor 2 (Option.some Jvm.ClassFile.FieldType.int) rm_X9_stoppedFor g [.ref x, .int (nI m)] (fun H => zH g ([[(x, .inr (12, [.ref a0, .ref a1, .ref a2, .int (nI k), .ref a3, .ref a4, .ref a5, .int (nI ty), .int thr, .int (nI at_), .int (zb bF), .int val, .ref a6, .int (nI tl), .int (zb bC)]))], [(a0, .inl (g.2.1 0, 89, .inl f))]] : List va_W) H) (.int (m_stFor f m)) := by
  refine zRO.start (by decide) (Nat.le_of_ble_eq_true rfl) ?_
  intro zp ze s zm zbl zmt zc ls X hr hlocks hP hl hS hA0
  have hx := X.1
  have hb := X.2.1
  have hml := X.2.2.1
  have hown := X.2.2.2.1
  have hls := hl.1
  have hl : lv_has ls 2 [(0, .ref x), (1, .int (nI m))] := hl
  refine lv_aload_n hx hb dX9_stoppedFor_0 rfl (lv_at hl 0 rfl) ?_
  refine z_get X (hP.at 0 0 rfl rfl) zF_RX9_7_12 rfl dX9_stoppedFor_1 ?_
  refine lv_iload_n hx hb dX9_stoppedFor_4 rfl (lv_at hl 1 rfl) ?_
  refine zc_ro (zr_S (As := [.ref a0, .int (nI m)]) (rest := []) X (m_X9_isStopped l g a0 f m (by omega)) zL_RX9_65 (zH.cons (va_P.one (hP.at 1 0 rfl rfl)) zH.nil) hS hA0 hls rfl (Nat.le_of_ble_eq_true rfl) ⟨rfl, rfl, Nat.le_of_ble_eq_true rfl, Nat.le_of_ble_eq_true rfl, (Nat.le_of_ble_eq_true rfl), (Nat.le_of_ble_eq_true rfl)⟩ dX9_stoppedFor_5) ?_
  refine zb_ifeq (tgt := 32) hx hb dX9_stoppedFor_8 (by decide) (fun c8_0 => ?_) (fun c8_0 => ?_)
  · skip
    refine lv_iconst (v := 0) hx hb dX9_stoppedFor_32 rfl ?_
    refine zRO.iret X hr hlocks ?_ dX9_stoppedFor_33
    simp [m_stFor, c8_0]
  · skip
    refine lv_aload_n hx hb dX9_stoppedFor_11 rfl (lv_at hl 0 rfl) ?_
    refine z_get X (hP.at 0 0 rfl rfl) zF_RX9_7_12 rfl dX9_stoppedFor_12 ?_
    refine lv_iload_n hx hb dX9_stoppedFor_15 rfl (lv_at hl 1 rfl) ?_
    refine lv_iconst (v := 5) hx hb dX9_stoppedFor_16 rfl ?_
    refine zc_ro (zr_S (As := [.ref a0, .int (nI m), .int 5]) (rest := []) X (m_X9_meadowIn l g a0 f m 5 (by omega)) zL_RX9_54 (zH.cons (va_P.one (hP.at 1 0 rfl rfl)) zH.nil) hS hA0 hls rfl (Nat.le_of_ble_eq_true rfl) ⟨rfl, rfl, Nat.le_of_ble_eq_true rfl, Nat.le_of_ble_eq_true rfl, (Nat.le_of_ble_eq_true rfl), (Nat.le_of_ble_eq_true rfl)⟩ dX9_stoppedFor_17) ?_
    refine lv_aload_n hx hb dX9_stoppedFor_20 rfl (lv_at hl 0 rfl) ?_
    refine z_get X (hP.at 0 0 rfl rfl) zF_RX9_7_12 rfl dX9_stoppedFor_21 ?_
    refine lv_iconst (v := 4) hx hb dX9_stoppedFor_24 rfl ?_
    refine z_iald X (j := 4) (hP.at 1 0 rfl rfl) rfl (by omega) (by decide) dX9_stoppedFor_25 ?_
    refine lv_isub hx hb dX9_stoppedFor_26 ?_
    refine lv_iconst (v := 1) hx hb dX9_stoppedFor_27 rfl ?_
    refine lv_iadd hx hb dX9_stoppedFor_28 ?_
    refine lv_goto (tgt := 33) hx hb dX9_stoppedFor_29 (by decide) ?_
    refine zRO.iret X hr hlocks ?_ dX9_stoppedFor_33
    simp [m_stFor, c8_0]

abbrev rm_X9_stopsFor : Room := { frames := 3, cells := 0, slots := 0, locals := 64 }
set_option maxHeartbeats 4000000 in
set_option maxRecDepth 100000 in
theorem m_X9_stopsFor (l : Launch) (g : zG) (x a0 a1 a2 a3 a4 a5 a6 : Nat) (k ty at_ tl : Nat) (thr val : Int32) (bF bC : Bool) (f : Nat → Int32) (m : Nat) (d : Int32) (hm : m < 5) (sz : Nat) : zWR l yX9_stopsFor cX9_stopsFor 5 (Option.some Jvm.ClassFile.FieldType.int) rm_X9_stopsFor g [.ref x, .int (nI m), .int d] ([[(x, .inr (12, [.ref a0, .ref a1, .ref a2, .int (nI k), .ref a3, .ref a4, .ref a5, .int (nI ty), .int thr, .int (nI at_), .int (zb bF), .int val, .ref a6, .int (nI tl), .int (zb bC)]))], [(a0, .inl (g.2.1 0, 89, .inl f))]] : List va_W) 0 0 sz (fun zv gs' => zv = some (.int (m_stFor (m_stops f m d) m)) ∧ gs' = [[(x, .inr (12, [.ref a0, .ref a1, .ref a2, .int (nI k), .ref a3, .ref a4, .ref a5, .int (nI ty), .int thr, .int (nI at_), .int (zb bF), .int val, .ref a6, .int (nI tl), .int (zb bC)]))], [(a0, .inl (g.2.1 0, 89, .inl (m_stops f m d)))]]) := by
  refine zWR.start (by decide) (Nat.le_of_ble_eq_true rfl) ?_
  intro zp ze s zm zbl zmt zc ls A X hr hlocks hinn hl hAe hW hS hA hA0
  have hx := X.1
  have hb := X.2.1
  have hml := X.2.2.1
  have hown := X.2.2.2.1
  have hls := hl.1
  have hl : lv_has ls 5 [(0, .ref x), (1, .int (nI m)), (2, .int d)] := hl
  refine lv_aload_n hx hb dX9_stopsFor_0 rfl (lv_at hl 0 rfl) ?_
  refine z_get X (hW.H.at 0 0 rfl rfl) zF_RX9_7_12 rfl dX9_stopsFor_1 ?_
  refine lv_iconst (v := 4) hx hb dX9_stopsFor_4 rfl ?_
  refine z_iald X (j := 4) (hW.H.at 1 0 rfl rfl) rfl (by omega) (by decide) dX9_stopsFor_5 ?_
  refine lv_iload_n hx hb dX9_stopsFor_6 rfl (lv_at hl 2 rfl) ?_
  refine lv_iadd hx hb dX9_stopsFor_7 ?_
  refine lv_iconst (v := 1) hx hb dX9_stopsFor_8 rfl ?_
  refine lv_isub hx hb dX9_stopsFor_9 ?_
  refine lv_istore_n (lv' := [(3, .int (((f 4) + d) - 1)), (0, .ref x), (1, .int (nI m)), (2, .int d)]) hx hb dX9_stopsFor_10 rfl hl (by decide) rfl (fun ls hl => ?_)
  have hls := hl.1
  refine lv_bipush (v := 54) hx hb dX9_stopsFor_11 (by decide) ?_
  refine lv_bipush (v := 7) hx hb dX9_stopsFor_13 (by decide) ?_
  refine lv_iload_n hx hb dX9_stopsFor_15 rfl (lv_at hl 2 rfl) ?_
  refine lv_imul hx hb dX9_stopsFor_16 ?_
  refine lv_iadd hx hb dX9_stopsFor_17 ?_
  refine lv_iconst (v := 5) hx hb dX9_stopsFor_18 rfl ?_
  refine lv_iadd hx hb dX9_stopsFor_19 ?_
  refine lv_istore (lv' := [(4, .int ((54 + (7 * (nI m))) + 5)), (3, .int (((f 4) + d) - 1)), (0, .ref x), (1, .int (nI m)), (2, .int d)]) hx hb dX9_stopsFor_20 hl (by decide) rfl (fun ls hl => ?_)
  have hls := hl.1
  refine lv_aload_n hx hb dX9_stopsFor_22 rfl (lv_at hl 2 rfl) ?_
  refine z_get X (hW.H.at 0 0 rfl rfl) zF_RX9_7_12 rfl dX9_stopsFor_23 ?_
  refine lv_iload hx hb dX9_stopsFor_26 (lv_at hl 0 rfl) ?_
  refine lv_iload_n hx hb dX9_stopsFor_28 rfl (lv_at hl 1 rfl) ?_
  refine lv_aload_n hx hb dX9_stopsFor_29 rfl (lv_at hl 2 rfl) ?_
  refine z_get X (hW.H.at 0 0 rfl rfl) zF_RX9_7_12 rfl dX9_stopsFor_30 ?_
  refine lv_iload hx hb dX9_stopsFor_33 (lv_at hl 0 rfl) ?_
  refine z_iald X (j := (54 + (7 * m)) + 5) (hW.H.at 1 0 rfl rfl) (zx_add (zx_add rfl (zx_mul rfl rfl)) rfl) (by omega) (by decide) dX9_stopsFor_35 ?_
  refine lv_icmp_le (tgt := 43) hx hb dX9_stopsFor_36 (by decide) (fun c36_0 => ?_) (fun c36_0 => ?_)
  · skip
    refine lv_aload_n hx hb dX9_stopsFor_43 rfl (lv_at hl 2 rfl) ?_
    refine z_get X (hW.H.at 0 0 rfl rfl) zF_RX9_7_12 rfl dX9_stopsFor_44 ?_
    refine lv_iload hx hb dX9_stopsFor_47 (lv_at hl 0 rfl) ?_
    refine z_iald X (j := (54 + (7 * m)) + 5) (hW.H.at 1 0 rfl rfl) (zx_add (zx_add rfl (zx_mul rfl rfl)) rfl) (by omega) (by decide) dX9_stopsFor_49 ?_
    refine z_iast X (j := (54 + (7 * m)) + 5) hW hS 1 0 rfl rfl (zx_add (zx_add rfl (zx_mul rfl rfl)) rfl) (by omega) (by decide) dX9_stopsFor_50 (fun H locs hW hS => ?_)
    have hW : zW g A ([[(x, .inr (12, [.ref a0, .ref a1, .ref a2, .int (nI k), .ref a3, .ref a4, .ref a5, .int (nI ty), .int thr, .int (nI at_), .int (zb bF), .int val, .ref a6, .int (nI tl), .int (zb bC)]))], [(a0, .inl (g.2.1 0, 89, .inl (upd f ((54 + (7 * m)) + 5) (f ((54 + (7 * m)) + 5)))))]] : List va_W) H := hW
    refine lv_aload_n hx hb dX9_stopsFor_51 rfl (lv_at hl 2 rfl) ?_
    refine lv_iload_n hx hb dX9_stopsFor_52 rfl (lv_at hl 3 rfl) ?_
    refine zc_ro (zr_V (As := [.int (nI m)]) (rest := []) X (m_X9_stoppedFor l g x a0 a1 a2 a3 a4 a5 a6 k ty at_ tl thr val bF bC (upd f ((54 + (7 * m)) + 5) (f ((54 + (7 * m)) + 5))) m (by omega)) zL_RX9_132 (ci := 12) rfl (hW.H.at 0 0 rfl rfl) (zH.cons (va_P.one (hW.H.at 0 0 rfl rfl)) (zH.cons (va_P.one (hW.H.at 1 0 rfl rfl)) zH.nil)) hS hA0 hls rfl (Nat.le_of_ble_eq_true rfl) ⟨rfl, rfl, Nat.le_of_ble_eq_true rfl, Nat.le_of_ble_eq_true rfl, (Nat.le_of_ble_eq_true rfl), (Nat.le_of_ble_eq_true rfl)⟩ dX9_stopsFor_53) ?_
    refine zWR.iret X hAe hW hS hr hlocks ?_ (Nat.le_of_ble_eq_true rfl) (Nat.le_of_ble_eq_true rfl) dX9_stopsFor_56
    simp only [m_stops, if_pos c36_0, and_self]
  · skip
    refine lv_iload_n hx hb dX9_stopsFor_39 rfl (lv_at hl 1 rfl) ?_
    refine lv_goto (tgt := 50) hx hb dX9_stopsFor_40 (by decide) ?_
    refine z_iast X (j := (54 + (7 * m)) + 5) hW hS 1 0 rfl rfl (zx_add (zx_add rfl (zx_mul rfl rfl)) rfl) (by omega) (by decide) dX9_stopsFor_50 (fun H locs hW hS => ?_)
    have hW : zW g A ([[(x, .inr (12, [.ref a0, .ref a1, .ref a2, .int (nI k), .ref a3, .ref a4, .ref a5, .int (nI ty), .int thr, .int (nI at_), .int (zb bF), .int val, .ref a6, .int (nI tl), .int (zb bC)]))], [(a0, .inl (g.2.1 0, 89, .inl (upd f ((54 + (7 * m)) + 5) (((f 4) + d) - 1))))]] : List va_W) H := hW
    refine lv_aload_n hx hb dX9_stopsFor_51 rfl (lv_at hl 2 rfl) ?_
    refine lv_iload_n hx hb dX9_stopsFor_52 rfl (lv_at hl 3 rfl) ?_
    refine zc_ro (zr_V (As := [.int (nI m)]) (rest := []) X (m_X9_stoppedFor l g x a0 a1 a2 a3 a4 a5 a6 k ty at_ tl thr val bF bC (upd f ((54 + (7 * m)) + 5) (((f 4) + d) - 1)) m (by omega)) zL_RX9_132 (ci := 12) rfl (hW.H.at 0 0 rfl rfl) (zH.cons (va_P.one (hW.H.at 0 0 rfl rfl)) (zH.cons (va_P.one (hW.H.at 1 0 rfl rfl)) zH.nil)) hS hA0 hls rfl (Nat.le_of_ble_eq_true rfl) ⟨rfl, rfl, Nat.le_of_ble_eq_true rfl, Nat.le_of_ble_eq_true rfl, (Nat.le_of_ble_eq_true rfl), (Nat.le_of_ble_eq_true rfl)⟩ dX9_stopsFor_53) ?_
    refine zWR.iret X hAe hW hS hr hlocks ?_ (Nat.le_of_ble_eq_true rfl) (Nat.le_of_ble_eq_true rfl) dX9_stopsFor_56
    simp only [m_stops, if_neg c36_0, and_self]

abbrev rm_X9_mayPass : Room := { frames := 0, cells := 0, slots := 0, locals := 0 }
set_option maxHeartbeats 4000000 in
set_option maxRecDepth 100000 in
theorem m_X9_mayPass (l : Launch) (g : zG) (x a0 a1 a2 a3 a4 a5 a6 : Nat) (k ty at_ tl : Nat) (thr val : Int32) (bF bC : Bool) (f : Nat → Int32) (d : Int32) : zRO l yX9_mayPass cX9_mayPass 2 (Option.some Jvm.ClassFile.FieldType.boolean) rm_X9_mayPass g [.ref x, .int d] (fun H => zH g ([[(x, .inr (12, [.ref a0, .ref a1, .ref a2, .int (nI k), .ref a3, .ref a4, .ref a5, .int (nI ty), .int thr, .int (nI at_), .int (zb bF), .int val, .ref a6, .int (nI tl), .int (zb bC)]))], [(a0, .inl (g.2.1 0, 89, .inl f))]] : List va_W) H) (.int (zb (m_mayPass f d))) := by
  refine zRO.start (by decide) (Nat.le_of_ble_eq_true rfl) ?_
  intro zp ze s zm zbl zmt zc ls X hr hlocks hP hl hS hA0
  have hx := X.1
  have hb := X.2.1
  have hml := X.2.2.1
  have hown := X.2.2.2.1
  have hls := hl.1
  have hl : lv_has ls 2 [(0, .ref x), (1, .int d)] := hl
  refine lv_aload_n hx hb dX9_mayPass_0 rfl (lv_at hl 0 rfl) ?_
  refine z_get X (hP.at 0 0 rfl rfl) zF_RX9_7_12 rfl dX9_mayPass_1 ?_
  refine lv_iconst (v := 4) hx hb dX9_mayPass_4 rfl ?_
  refine z_iald X (j := 4) (hP.at 1 0 rfl rfl) rfl (by omega) (by decide) dX9_mayPass_5 ?_
  refine lv_iload_n hx hb dX9_mayPass_6 rfl (lv_at hl 1 rfl) ?_
  refine lv_iadd hx hb dX9_mayPass_7 ?_
  refine lv_sipush (v := 9999) hx hb dX9_mayPass_8 (by decide) ?_
  refine lv_icmp_gt (tgt := 18) hx hb dX9_mayPass_11 (by decide) (fun c11_0 => ?_) (fun c11_0 => ?_)
  · skip
    refine lv_iconst (v := 0) hx hb dX9_mayPass_18 rfl ?_
    refine zRO.zret X hr (zb_nar _) hlocks ?_ dX9_mayPass_19
    simp [m_mayPass, zb, c11_0]
  · skip
    refine lv_iconst (v := 1) hx hb dX9_mayPass_14 rfl ?_
    refine lv_goto (tgt := 19) hx hb dX9_mayPass_15 (by decide) ?_
    refine zRO.zret X hr (zb_nar _) hlocks ?_ dX9_mayPass_19
    simp [m_mayPass, zb, c11_0]

abbrev rm_X9_saves : Room := { frames := 1, cells := 0, slots := 0, locals := 24 }
set_option maxHeartbeats 4000000 in
set_option maxRecDepth 100000 in
theorem m_X9_saves (l : Launch) (g : zG) (x a0 a1 a2 a3 a4 a5 a6 : Nat) (k ty at_ tl : Nat) (thr val : Int32) (bF bC : Bool) (f pa : Nat → Int32) (hk : k ≤ 6) (sz : Nat) : zWR l yX9_saves cX9_saves 2 (Option.none : Option Jvm.ClassFile.FieldType) rm_X9_saves g [.ref x] ([[(x, .inr (12, [.ref a0, .ref a1, .ref a2, .int (nI k), .ref a3, .ref a4, .ref a5, .int (nI ty), .int thr, .int (nI at_), .int (zb bF), .int val, .ref a6, .int (nI tl), .int (zb bC)]))], [(a0, .inl (g.2.1 0, 89, .inl f))], [(a2, .inl (g.2.1 0, 534, .inl pa))]] : List va_W) 0 0 sz (fun zv gs' => zv = none ∧ gs' = [[(x, .inr (12, [.ref a0, .ref a1, .ref a2, .int (nI (m_sk k + 1)), .ref a3, .ref a4, .ref a5, .int (nI ty), .int thr, .int (nI at_), .int (zb bF), .int val, .ref a6, .int (nI tl), .int (zb bC)]))], [(a0, .inl (g.2.1 0, 89, .inl f))], [(a2, .inl (g.2.1 0, 534, .inl (m_save f k pa)))]]) := by
  refine zWR.start (by decide) (Nat.le_of_ble_eq_true rfl) ?_
  intro zp ze s zm zbl zmt zc ls A X hr hlocks hinn hl hAe hW hS hA hA0
  have hx := X.1
  have hb := X.2.1
  have hml := X.2.2.1
  have hown := X.2.2.2.1
  have hls := hl.1
  have hl : lv_has ls 2 [(0, .ref x)] := hl
  refine lv_aload_n hx hb dX9_saves_0 rfl (lv_at hl 0 rfl) ?_
  have hj49 : ∀  (k1 : Nat) (p1 : Nat → Int32) (hk1 : k1 = m_sk k) (hp1 : p1 = m_sv k pa) (hk5 : k1 ≤ 5) (H : Heap) (locs : List Loc), zW g A ([[(x, .inr (12, [.ref a0, .ref a1, .ref a2, .int (nI k1), .ref a3, .ref a4, .ref a5, .int (nI ty), .int thr, .int (nI at_), .int (zb bF), .int val, .ref a6, .int (nI tl), .int (zb bC)]))], [(a0, .inl (g.2.1 0, 89, .inl f))], [(a2, .inl (g.2.1 0, 534, .inl p1))]] : List va_W) H → va_S A s.heap H locs → ∀ (ls : Array Slot), lv_has ls 2 [(0, .ref x)] → W zp l ze rm_X9_saves s zm ([.ref x] : List Value).toArray zbl zmt zc H locs 0 0 (MQ zbl (zQW g ([[(x, .inr (12, [.ref a0, .ref a1, .ref a2, .int (nI k), .ref a3, .ref a4, .ref a5, .int (nI ty), .int thr, .int (nI at_), .int (zb bF), .int val, .ref a6, .int (nI tl), .int (zb bC)]))], [(a0, .inl (g.2.1 0, 89, .inl f))], [(a2, .inl (g.2.1 0, 534, .inl pa))]] : List va_W) (fun zv gs' => zv = none ∧ gs' = [[(x, .inr (12, [.ref a0, .ref a1, .ref a2, .int (nI (m_sk k + 1)), .ref a3, .ref a4, .ref a5, .int (nI ty), .int thr, .int (nI at_), .int (zb bF), .int val, .ref a6, .int (nI tl), .int (zb bC)]))], [(a0, .inl (g.2.1 0, 89, .inl f))], [(a2, .inl (g.2.1 0, 534, .inl (m_save f k pa)))]])) ([.ref x] : List Value).toArray s 0 0 A) (F0 zm 49 ls []) := by
    intro k1 p1 hk1 hp1 hk5 H locs hW hS ls hl
    have hls := hl.1
    refine lv_aload_n hx hb dX9_saves_49 rfl (lv_at hl 0 rfl) ?_
    refine z_get X (hW.H.at 0 0 rfl rfl) zF_RX9_7_12 rfl dX9_saves_50 ?_
    refine lv_iconst (v := 0) hx hb dX9_saves_53 rfl ?_
    refine lv_aload_n hx hb dX9_saves_54 rfl (lv_at hl 0 rfl) ?_
    refine z_get X (hW.H.at 0 0 rfl rfl) zF_RX9_16_12 rfl dX9_saves_55 ?_
    refine lv_bipush (v := 89) hx hb dX9_saves_58 (by decide) ?_
    refine lv_aload_n hx hb dX9_saves_60 rfl (lv_at hl 0 rfl) ?_
    refine z_get X (hW.H.at 0 0 rfl rfl) zF_RX9_40_12 rfl dX9_saves_61 ?_
    refine lv_imul hx hb dX9_saves_64 ?_
    refine z_stk (b := [.int (nI (89 * k1)), .ref a2, .int 0, .ref a0]) (by rw [show (89 * (nI k1)) = nI (89 * k1) from zx_mul rfl rfl]) ?_
    have hW := hW.perm (gs' := ([[(a0, .inl (g.2.1 0, 89, .inl f))], [(a2, .inl (g.2.1 0, 534, .inl p1))], [(x, .inr (12, [.ref a0, .ref a1, .ref a2, .int (nI k1), .ref a3, .ref a4, .ref a5, .int (nI ty), .int thr, .int (nI at_), .int (zb bF), .int val, .ref a6, .int (nI tl), .int (zb bC)]))]] : List va_W)) [1, 2, 0] 3 rfl (by decide) rfl
    refine zc_wr (gc := [[(a0, .inl (g.2.1 0, 89, .inl f))], [(a2, .inl (g.2.1 0, 534, .inl p1))]]) (gr := [[(x, .inr (12, [.ref a0, .ref a1, .ref a2, .int (nI k1), .ref a3, .ref a4, .ref a5, .int (nI ty), .int thr, .int (nI at_), .int (zb bF), .int val, .ref a6, .int (nI tl), .int (zb bC)]))]]) (zr_S (As := [.ref a0, .int 0, .ref a2, .int (nI (89 * k1))]) (rest := []) X (m_X9_copies l g a0 a2 0 (89 * k1) 89 534 f p1 (by omega) (by omega) (by omega) (by omega) _) zL_RX9_43 (zW.pre (gc := [[(a0, .inl (g.2.1 0, 89, .inl f))], [(a2, .inl (g.2.1 0, 534, .inl p1))]]) (gr := [[(x, .inr (12, [.ref a0, .ref a1, .ref a2, .int (nI k1), .ref a3, .ref a4, .ref a5, .int (nI ty), .int thr, .int (nI at_), .int (zb bF), .int val, .ref a6, .int (nI tl), .int (zb bC)]))]]) hW hA0) hS hA0 hls rfl (Nat.le_of_ble_eq_true rfl) ⟨rfl, rfl, Nat.le_of_ble_eq_true rfl, Nat.le_of_ble_eq_true rfl, (Nat.le_of_ble_eq_true rfl), (Nat.le_of_ble_eq_true rfl)⟩ dX9_saves_65) hW hS hA (fun v gc' H locs hpost hW hS => ?_)
    obtain ⟨rfl, rfl⟩ := hpost
    have hW : zW g A ([[(a0, .inl (g.2.1 0, 89, .inl f))], [(a2, .inl (g.2.1 0, 534, .inl (va_cpy f p1 0 (89 * k1) 89)))], [(x, .inr (12, [.ref a0, .ref a1, .ref a2, .int (nI k1), .ref a3, .ref a4, .ref a5, .int (nI ty), .int thr, .int (nI at_), .int (zb bF), .int val, .ref a6, .int (nI tl), .int (zb bC)]))]] : List va_W) H := hW
    refine W.eq (g2 := F0 zm 68 ls []) rfl ?_
    refine lv_aload_n hx hb dX9_saves_68 rfl (lv_at hl 0 rfl) ?_
    refine lv_dup hx hb dX9_saves_69 rfl ?_
    refine z_get X (hW.H.at 2 0 rfl rfl) zF_RX9_40_12 rfl dX9_saves_70 ?_
    refine lv_iconst (v := 1) hx hb dX9_saves_73 rfl ?_
    refine lv_iadd hx hb dX9_saves_74 ?_
    refine z_stk (b := [.int (nI (k1 + 1)), .ref x]) (by rw [show ((nI k1) + 1) = nI (k1 + 1) from zx_add rfl rfl]) ?_
    refine z_put X hW hS 2 0 rfl rfl zP_RX9_40_12 rfl rfl (Nat.le_of_ble_eq_true rfl) dX9_saves_75 (fun H locs hW hS => ?_)
    have hW : zW g A ([[(a0, .inl (g.2.1 0, 89, .inl f))], [(a2, .inl (g.2.1 0, 534, .inl (va_cpy f p1 0 (89 * k1) 89)))], [(x, .inr (12, [.ref a0, .ref a1, .ref a2, .int (nI (k1 + 1)), .ref a3, .ref a4, .ref a5, .int (nI ty), .int thr, .int (nI at_), .int (zb bF), .int val, .ref a6, .int (nI tl), .int (zb bC)]))]] : List va_W) H := hW
    have hW := hW.perm (gs' := ([[(x, .inr (12, [.ref a0, .ref a1, .ref a2, .int (nI (k1 + 1)), .ref a3, .ref a4, .ref a5, .int (nI ty), .int thr, .int (nI at_), .int (zb bF), .int val, .ref a6, .int (nI tl), .int (zb bC)]))], [(a0, .inl (g.2.1 0, 89, .inl f))], [(a2, .inl (g.2.1 0, 534, .inl (va_cpy f p1 0 (89 * k1) 89)))]] : List va_W)) [2, 0, 1] 3 rfl (by decide) rfl
    refine zWR.vret X hAe hW hS hr hlocks ?_ (Nat.le_of_ble_eq_true rfl) (Nat.le_of_ble_eq_true rfl) dX9_saves_78
    subst hk1 hp1
    exact ⟨rfl, rfl⟩
  refine z_get X (hW.H.at 0 0 rfl rfl) zF_RX9_40_12 rfl dX9_saves_1 ?_
  refine lv_bipush (v := 6) hx hb dX9_saves_4 (by decide) ?_
  refine lv_icmp_ne (tgt := 49) hx hb dX9_saves_6 (by decide) (fun c6_0 => ?_) (fun c6_0 => ?_)
  · skip
    have kc6_0 := mt (zn_eq (a := k) (b := 6) rfl rfl (by omega) (by omega)).mpr c6_0
    have hk6 : ¬ k = 6 := kc6_0
    exact hj49 _ _ (by unfold m_sk; rw [if_neg hk6]) (by unfold m_sv; rw [if_neg hk6]) (by omega) _ _ hW hS _ (lv_sub hl [0] rfl)
  · skip
    have kc6_0 := (zn_eq (a := k) (b := 6) rfl rfl (by omega) (by omega)).mp c6_0
    have hk6 : k = 6 := kc6_0
    refine lv_iconst (v := 0) hx hb dX9_saves_9 rfl ?_
    refine lv_istore_n (lv' := [(1, .int 0), (0, .ref x)]) hx hb dX9_saves_10 rfl hl (by decide) rfl (fun ls hl => ?_)
    have hls := hl.1
    have hj11 : ∀ (zn j : Nat) (h_le : j ≤ 445) (h_fu : 445 < j + zn) (c : Nat → Int32) (hc : c = m_shl pa j) (H : Heap) (locs : List Loc), zW g A ([[(x, .inr (12, [.ref a0, .ref a1, .ref a2, .int (nI k), .ref a3, .ref a4, .ref a5, .int (nI ty), .int thr, .int (nI at_), .int (zb bF), .int val, .ref a6, .int (nI tl), .int (zb bC)]))], [(a0, .inl (g.2.1 0, 89, .inl f))], [(a2, .inl (g.2.1 0, 534, .inl c))]] : List va_W) H → va_S A s.heap H locs → ∀ (ls : Array Slot), lv_has ls 2 [(0, .ref x), (1, .int (nI j))] → W zp l ze rm_X9_saves s zm ([.ref x] : List Value).toArray zbl zmt zc H locs 0 0 (MQ zbl (zQW g ([[(x, .inr (12, [.ref a0, .ref a1, .ref a2, .int (nI k), .ref a3, .ref a4, .ref a5, .int (nI ty), .int thr, .int (nI at_), .int (zb bF), .int val, .ref a6, .int (nI tl), .int (zb bC)]))], [(a0, .inl (g.2.1 0, 89, .inl f))], [(a2, .inl (g.2.1 0, 534, .inl pa))]] : List va_W) (fun zv gs' => zv = none ∧ gs' = [[(x, .inr (12, [.ref a0, .ref a1, .ref a2, .int (nI (m_sk k + 1)), .ref a3, .ref a4, .ref a5, .int (nI ty), .int thr, .int (nI at_), .int (zb bF), .int val, .ref a6, .int (nI tl), .int (zb bC)]))], [(a0, .inl (g.2.1 0, 89, .inl f))], [(a2, .inl (g.2.1 0, 534, .inl (m_save f k pa)))]])) ([.ref x] : List Value).toArray s 0 0 A) (F0 zm 11 ls []) := by
      intro zn
      induction zn with
      | zero => intro j h_le h_fu; exact absurd h_fu (by omega)
      | succ zn ih11 =>
        intro j h_le h_fu c hc H locs hW hS ls hl
        have hls := hl.1
        refine lv_iload_n hx hb dX9_saves_11 rfl (lv_at hl 1 rfl) ?_
        refine lv_sipush (v := 445) hx hb dX9_saves_12 (by decide) ?_
        refine lv_icmp_ge (tgt := 39) hx hb dX9_saves_15 (by decide) (fun c15_1 => ?_) (fun c15_1 => ?_)
        · skip
          have kc15_1 := (zn_le (a := 445) (b := j) rfl rfl (by omega) (by omega)).mp c15_1
          refine lv_aload_n hx hb dX9_saves_39 rfl (lv_at hl 0 rfl) ?_
          refine lv_dup hx hb dX9_saves_40 rfl ?_
          refine z_get X (hW.H.at 0 0 rfl rfl) zF_RX9_40_12 rfl dX9_saves_41 ?_
          refine lv_iconst (v := 1) hx hb dX9_saves_44 rfl ?_
          refine lv_isub hx hb dX9_saves_45 ?_
          refine z_stk (b := [.int (nI 5), .ref x]) (by rw [show ((nI k) - 1) = nI 5 from by rw [hk6]; decide]) ?_
          refine z_put X hW hS 0 0 rfl rfl zP_RX9_40_12 rfl rfl (Nat.le_of_ble_eq_true rfl) dX9_saves_46 (fun H locs hW hS => ?_)
          have hW : zW g A ([[(x, .inr (12, [.ref a0, .ref a1, .ref a2, .int (nI 5), .ref a3, .ref a4, .ref a5, .int (nI ty), .int thr, .int (nI at_), .int (zb bF), .int val, .ref a6, .int (nI tl), .int (zb bC)]))], [(a0, .inl (g.2.1 0, 89, .inl f))], [(a2, .inl (g.2.1 0, 534, .inl c))]] : List va_W) H := hW
          exact hj49 _ _ (by unfold m_sk; rw [if_pos hk6]) (by unfold m_sv; rw [if_pos hk6, hc, show j = 445 by omega]) (by omega) _ _ hW hS _ (lv_sub hl [0] rfl)
        · skip
          have kc15_1 := mt (zn_le (a := 445) (b := j) rfl rfl (by omega) (by omega)).mpr c15_1
          refine lv_aload_n hx hb dX9_saves_18 rfl (lv_at hl 0 rfl) ?_
          refine z_get X (hW.H.at 0 0 rfl rfl) zF_RX9_16_12 rfl dX9_saves_19 ?_
          refine lv_iload_n hx hb dX9_saves_22 rfl (lv_at hl 1 rfl) ?_
          refine lv_aload_n hx hb dX9_saves_23 rfl (lv_at hl 0 rfl) ?_
          refine z_get X (hW.H.at 0 0 rfl rfl) zF_RX9_16_12 rfl dX9_saves_24 ?_
          refine lv_iload_n hx hb dX9_saves_27 rfl (lv_at hl 1 rfl) ?_
          refine lv_bipush (v := 89) hx hb dX9_saves_28 (by decide) ?_
          refine lv_iadd hx hb dX9_saves_30 ?_
          refine z_iald X (j := j + 89) (hW.H.at 2 0 rfl rfl) (zx_add rfl rfl) (by omega) (by decide) dX9_saves_31 ?_
          refine z_iast X (j := j) hW hS 2 0 rfl rfl rfl (by omega) (by decide) dX9_saves_32 (fun H locs hW hS => ?_)
          have hW : zW g A ([[(x, .inr (12, [.ref a0, .ref a1, .ref a2, .int (nI k), .ref a3, .ref a4, .ref a5, .int (nI ty), .int thr, .int (nI at_), .int (zb bF), .int val, .ref a6, .int (nI tl), .int (zb bC)]))], [(a0, .inl (g.2.1 0, 89, .inl f))], [(a2, .inl (g.2.1 0, 534, .inl (upd c j (c (j + 89)))))]] : List va_W) H := hW
          refine lv_iinc (v := nI (j + 1)) (lv' := [(1, .int (nI (j + 1))), (0, .ref x)]) hx hb dX9_saves_33 hl (k := 1) rfl (zx_add rfl rfl) (by decide) rfl (fun ls hl => ?_)
          have hls := hl.1
          refine lv_goto (tgt := 11) hx hb dX9_saves_36 (by decide) ?_
          exact ih11 (j + 1) (by omega) (by omega) _ (by rw [hc]; exact m_shl_s (by omega)) _ _ hW hS _ (lv_sub hl [1, 0] rfl)
    exact hj11 (445 + 1) (0) (by omega) (by omega) _ m_shl_0.symm _ _ hW hS _ (lv_sub hl [1, 0] rfl)
