set_option maxRecDepth 100000
theorem zF_RX9_151_12 : zF RX9 151 12 7 := ⟨RX9, TX9, 15, "SpoilMeadowsModel", rfl, in_X9, by decide, .inl q1609, .inl rfl⟩
theorem zF_RX9_26_12 : zF RX9 26 12 6 := ⟨RX9, TX9, 15, "SpoilMeadowsModel", rfl, in_X9, by decide, .inl q1608, .inl rfl⟩
theorem zP_RX9_151_12 : zP RX9 151 12 7 .int := ⟨RX9, TX9, 15, "SpoilMeadowsModel", tyX9, rfl, in_X9, by decide, .inl q1609, .inl rfl, tyX9_ok, nmX9, by decide +kernel, rfl⟩
theorem zF_RX9_154_12 : zF RX9 154 12 9 := ⟨RX9, TX9, 15, "SpoilMeadowsModel", rfl, in_X9, by decide, .inl q1611, .inl rfl⟩
theorem zP_RX9_157_12 : zP RX9 157 12 10 .boolean := ⟨RX9, TX9, 15, "SpoilMeadowsModel", tyX9, rfl, in_X9, by decide, .inl q1612, .inl rfl, tyX9_ok, nmX9, by decide +kernel, rfl⟩
theorem zL_RX9_160 : zLV RX9 160 RX9 yX9_isAt cX9_isAt 3 (Option.some Jvm.ClassFile.FieldType.boolean) 2 := ⟨.inl q1838, q1840, qs59, q103, rfl, q1841, ⟨by decide +kernel, by decide +kernel, by decide +kernel⟩⟩
theorem zF_RX9_29_12 : zF RX9 29 12 12 := ⟨RX9, TX9, 15, "SpoilMeadowsModel", rfl, in_X9, by decide, .inl q1614, .inl rfl⟩
theorem zF_RX9_167_12 : zF RX9 167 12 13 := ⟨RX9, TX9, 15, "SpoilMeadowsModel", rfl, in_X9, by decide, .inl q1615, .inl rfl⟩
theorem zP_RX9_154_12 : zP RX9 154 12 9 .int := ⟨RX9, TX9, 15, "SpoilMeadowsModel", tyX9, rfl, in_X9, by decide, .inl q1611, .inl rfl, tyX9_ok, nmX9, by decide +kernel, rfl⟩
theorem zL_RX9_163 : zLV RX9 163 RX9 yX9_stops cX9_stops 1 (Option.some Jvm.ClassFile.FieldType.boolean) 0 := ⟨.inl q1842, q1844, qs60, q103, rfl, q1845, ⟨by decide +kernel, by decide +kernel, by decide +kernel⟩⟩
theorem zP_RX9_170_12 : zP RX9 170 12 11 .int := ⟨RX9, TX9, 15, "SpoilMeadowsModel", tyX9, rfl, in_X9, by decide, .inl q1613, .inl rfl, tyX9_ok, nmX9, by decide +kernel, rfl⟩
theorem zF_RX9_170_12 : zF RX9 170 12 11 := ⟨RX9, TX9, 15, "SpoilMeadowsModel", rfl, in_X9, by decide, .inl q1613, .inl rfl⟩
theorem zL_RX9_173 : zLV RX9 173 RX9 yX9_isDigit cX9_isDigit 3 (Option.some Jvm.ClassFile.FieldType.boolean) 2 := ⟨.inl q1834, q1836, qs58, q103, rfl, q1837, ⟨by decide +kernel, by decide +kernel, by decide +kernel⟩⟩
theorem zL_RX9_176 : zLV RX9 176 RX9 yX9_areDays cX9_areDays 2 (Option.some Jvm.ClassFile.FieldType.boolean) 1 := ⟨.inl q1850, q1852, qs62, q103, rfl, q1853, ⟨by decide +kernel, by decide +kernel, by decide +kernel⟩⟩
theorem zL_RX9_179 : zLV RX9 179 RX9 yX9_isToldOrder cX9_isToldOrder 1 (Option.some Jvm.ClassFile.FieldType.boolean) 0 := ⟨.inl q1830, q1832, qs57, q103, rfl, q1833, ⟨by decide +kernel, by decide +kernel, by decide +kernel⟩⟩
theorem zL_RX9_182 : zLV RX9 182 RX9 yX9_isComplaint cX9_isComplaint 1 (Option.some Jvm.ClassFile.FieldType.boolean) 0 := ⟨.inl q1846, q1848, qs61, q103, rfl, q1849, ⟨by decide +kernel, by decide +kernel, by decide +kernel⟩⟩
abbrev rm_X9_append_bad1 : Room := { frames := 1, cells := 0, slots := 0, locals := 22 }
set_option maxHeartbeats 4000000 in
set_option maxRecDepth 100000 in
theorem m_X9_append_bad1 (l : Launch) (g : zG) (x a0 a1 a2 a3 a4 a5 a6 : Nat) (k ty at_ tl : Nat) (thr val : Int32) (bF bC : Bool) (q : Int32) (hbad : m_in q 33 126 = false) (sz : Nat) : zWR l yX9_append cX9_append 2 (Option.some Jvm.ClassFile.FieldType.int) rm_X9_append_bad1 g [.ref x, .int q] ([[(x, .inr (12, [.ref a0, .ref a1, .ref a2, .int (nI k), .ref a3, .ref a4, .ref a5, .int (nI ty), .int thr, .int (nI at_), .int (zb bF), .int val, .ref a6, .int (nI tl), .int (zb bC)]))]] : List va_W) 0 0 sz (fun zv gs' => zv = some (.int (0)) ∧ gs' = [[(x, .inr (12, [.ref a0, .ref a1, .ref a2, .int (nI k), .ref a3, .ref a4, .ref a5, .int (nI ty), .int 1, .int (nI at_), .int (zb bF), .int val, .ref a6, .int (nI tl), .int (zb bC)]))]]) := by
  refine zWR.start (by decide) (Nat.le_of_ble_eq_true rfl) ?_
  intro zp ze s zm zbl zmt zc ls A X hr hlocks hinn hl hAe hW hS hA hA0
  have hx := X.1
  have hb := X.2.1
  have hml := X.2.2.1
  have hown := X.2.2.2.1
  have hls := hl.1
  have hl : lv_has ls 2 [(0, .ref x), (1, .int q)] := hl
  refine lv_aload_n hx hb dX9_append_0 rfl (lv_at hl 0 rfl) ?_
  refine lv_iconst (v := 0) hx hb dX9_append_1 rfl ?_
  refine z_put X hW hS 0 0 rfl rfl zP_RX9_32_12 rfl rfl (Nat.le_of_ble_eq_true rfl) dX9_append_2 (fun H locs hW hS => ?_)
  have hW : zW g A ([[(x, .inr (12, [.ref a0, .ref a1, .ref a2, .int (nI k), .ref a3, .ref a4, .ref a5, .int (nI ty), .int 0, .int (nI at_), .int (zb bF), .int val, .ref a6, .int (nI tl), .int (zb bC)]))]] : List va_W) H := hW
  refine lv_iload_n hx hb dX9_append_5 rfl (lv_at hl 1 rfl) ?_
  refine lv_bipush (v := 33) hx hb dX9_append_6 (by decide) ?_
  refine lv_bipush (v := 126) hx hb dX9_append_8 (by decide) ?_
  refine zc_ro (zr_S (As := [.int q, .int 33, .int 126]) (rest := []) X (m_X9_in l g q 33 126) zL_RX9_36 trivial hS hA0 hls rfl (Nat.le_of_ble_eq_true rfl) ⟨rfl, rfl, Nat.le_of_ble_eq_true rfl, Nat.le_of_ble_eq_true rfl, (Nat.le_of_ble_eq_true rfl), (Nat.le_of_ble_eq_true rfl)⟩ dX9_append_10) ?_
  refine zb_ifne (tgt := 22) hx hb dX9_append_13 (by decide) (fun c13_0 => ?_) (fun c13_0 => ?_)
  · exact absurd (hbad.symm.trans c13_0) (by decide)
  · skip
    refine lv_aload_n hx hb dX9_append_16 rfl (lv_at hl 0 rfl) ?_
    refine lv_iconst (v := 1) hx hb dX9_append_17 rfl ?_
    refine zc_wr (gc := [[(x, .inr (12, [.ref a0, .ref a1, .ref a2, .int (nI k), .ref a3, .ref a4, .ref a5, .int (nI ty), .int 0, .int (nI at_), .int (zb bF), .int val, .ref a6, .int (nI tl), .int (zb bC)]))]]) (gr := []) (zr_V (As := [.int 1]) (rest := []) X (m_X9_fails l g x a0 a1 a2 a3 a4 a5 a6 k ty at_ tl 0 val bF bC 1 _) zL_RX9_47 (ci := 12) rfl (hW.H.at 0 0 rfl rfl) (zW.pre (gc := [[(x, .inr (12, [.ref a0, .ref a1, .ref a2, .int (nI k), .ref a3, .ref a4, .ref a5, .int (nI ty), .int 0, .int (nI at_), .int (zb bF), .int val, .ref a6, .int (nI tl), .int (zb bC)]))]]) (gr := []) hW hA0) hS hA0 hls rfl (Nat.le_of_ble_eq_true rfl) ⟨rfl, rfl, Nat.le_of_ble_eq_true rfl, Nat.le_of_ble_eq_true rfl, (Nat.le_of_ble_eq_true rfl), (Nat.le_of_ble_eq_true rfl)⟩ dX9_append_18) hW hS hA (fun v gc' H locs hpost hW hS => ?_)
    obtain ⟨rfl, rfl⟩ := hpost
    have hW : zW g A ([[(x, .inr (12, [.ref a0, .ref a1, .ref a2, .int (nI k), .ref a3, .ref a4, .ref a5, .int (nI ty), .int 1, .int (nI at_), .int (zb bF), .int val, .ref a6, .int (nI tl), .int (zb bC)]))]] : List va_W) H := hW
    refine W.eq (g2 := F0 zm 21 ls [.int 0]) rfl ?_
    refine zWR.iret X hAe hW hS hr hlocks ?_ (Nat.le_of_ble_eq_true rfl) (Nat.le_of_ble_eq_true rfl) dX9_append_21
    exact ⟨rfl, rfl⟩

abbrev rm_X9_append_bad2 : Room := { frames := 1, cells := 0, slots := 0, locals := 22 }
set_option maxHeartbeats 4000000 in
set_option maxRecDepth 100000 in
theorem m_X9_append_bad2 (l : Launch) (g : zG) (x a0 a1 a2 a3 a4 a5 a6 : Nat) (k ty at_ tl : Nat) (thr val : Int32) (bF bC : Bool) (q : Int32) (hq : m_in q 33 126 = true) (ht60 : ty = 60) (sz : Nat) : zWR l yX9_append cX9_append 2 (Option.some Jvm.ClassFile.FieldType.int) rm_X9_append_bad2 g [.ref x, .int q] ([[(x, .inr (12, [.ref a0, .ref a1, .ref a2, .int (nI k), .ref a3, .ref a4, .ref a5, .int (nI ty), .int thr, .int (nI at_), .int (zb bF), .int val, .ref a6, .int (nI tl), .int (zb bC)]))]] : List va_W) 0 0 sz (fun zv gs' => zv = some (.int (0)) ∧ gs' = [[(x, .inr (12, [.ref a0, .ref a1, .ref a2, .int (nI k), .ref a3, .ref a4, .ref a5, .int (nI ty), .int 2, .int (nI at_), .int (zb bF), .int val, .ref a6, .int (nI tl), .int (zb bC)]))]]) := by
  refine zWR.start (by decide) (Nat.le_of_ble_eq_true rfl) ?_
  intro zp ze s zm zbl zmt zc ls A X hr hlocks hinn hl hAe hW hS hA hA0
  have hx := X.1
  have hb := X.2.1
  have hml := X.2.2.1
  have hown := X.2.2.2.1
  have hls := hl.1
  have hl : lv_has ls 2 [(0, .ref x), (1, .int q)] := hl
  refine lv_aload_n hx hb dX9_append_0 rfl (lv_at hl 0 rfl) ?_
  refine lv_iconst (v := 0) hx hb dX9_append_1 rfl ?_
  refine z_put X hW hS 0 0 rfl rfl zP_RX9_32_12 rfl rfl (Nat.le_of_ble_eq_true rfl) dX9_append_2 (fun H locs hW hS => ?_)
  have hW : zW g A ([[(x, .inr (12, [.ref a0, .ref a1, .ref a2, .int (nI k), .ref a3, .ref a4, .ref a5, .int (nI ty), .int 0, .int (nI at_), .int (zb bF), .int val, .ref a6, .int (nI tl), .int (zb bC)]))]] : List va_W) H := hW
  refine lv_iload_n hx hb dX9_append_5 rfl (lv_at hl 1 rfl) ?_
  refine lv_bipush (v := 33) hx hb dX9_append_6 (by decide) ?_
  refine lv_bipush (v := 126) hx hb dX9_append_8 (by decide) ?_
  refine zc_ro (zr_S (As := [.int q, .int 33, .int 126]) (rest := []) X (m_X9_in l g q 33 126) zL_RX9_36 trivial hS hA0 hls rfl (Nat.le_of_ble_eq_true rfl) ⟨rfl, rfl, Nat.le_of_ble_eq_true rfl, Nat.le_of_ble_eq_true rfl, (Nat.le_of_ble_eq_true rfl), (Nat.le_of_ble_eq_true rfl)⟩ dX9_append_10) ?_
  refine zb_ifne (tgt := 22) hx hb dX9_append_13 (by decide) (fun c13_0 => ?_) (fun c13_0 => ?_)
  · skip
    refine lv_aload_n hx hb dX9_append_22 rfl (lv_at hl 0 rfl) ?_
    refine z_get X (hW.H.at 0 0 rfl rfl) zF_RX9_151_12 rfl dX9_append_23 ?_
    refine lv_bipush (v := 60) hx hb dX9_append_26 (by decide) ?_
    refine lv_icmp_ne (tgt := 37) hx hb dX9_append_28 (by decide) (fun c28_1 => ?_) (fun c28_1 => ?_)
    · exact absurd (by rw [ht60]; rfl) c28_1
    · skip
      have kc28_1 := (zn_eq (a := ty) (b := 60) rfl rfl (by omega) (by omega)).mp c28_1
      refine lv_aload_n hx hb dX9_append_31 rfl (lv_at hl 0 rfl) ?_
      refine lv_iconst (v := 2) hx hb dX9_append_32 rfl ?_
      refine zc_wr (gc := [[(x, .inr (12, [.ref a0, .ref a1, .ref a2, .int (nI k), .ref a3, .ref a4, .ref a5, .int (nI ty), .int 0, .int (nI at_), .int (zb bF), .int val, .ref a6, .int (nI tl), .int (zb bC)]))]]) (gr := []) (zr_V (As := [.int 2]) (rest := []) X (m_X9_fails l g x a0 a1 a2 a3 a4 a5 a6 k ty at_ tl 0 val bF bC 2 _) zL_RX9_47 (ci := 12) rfl (hW.H.at 0 0 rfl rfl) (zW.pre (gc := [[(x, .inr (12, [.ref a0, .ref a1, .ref a2, .int (nI k), .ref a3, .ref a4, .ref a5, .int (nI ty), .int 0, .int (nI at_), .int (zb bF), .int val, .ref a6, .int (nI tl), .int (zb bC)]))]]) (gr := []) hW hA0) hS hA0 hls rfl (Nat.le_of_ble_eq_true rfl) ⟨rfl, rfl, Nat.le_of_ble_eq_true rfl, Nat.le_of_ble_eq_true rfl, (Nat.le_of_ble_eq_true rfl), (Nat.le_of_ble_eq_true rfl)⟩ dX9_append_33) hW hS hA (fun v gc' H locs hpost hW hS => ?_)
      obtain ⟨rfl, rfl⟩ := hpost
      have hW : zW g A ([[(x, .inr (12, [.ref a0, .ref a1, .ref a2, .int (nI k), .ref a3, .ref a4, .ref a5, .int (nI ty), .int 2, .int (nI at_), .int (zb bF), .int val, .ref a6, .int (nI tl), .int (zb bC)]))]] : List va_W) H := hW
      refine W.eq (g2 := F0 zm 36 ls [.int 0]) rfl ?_
      refine zWR.iret X hAe hW hS hr hlocks ?_ (Nat.le_of_ble_eq_true rfl) (Nat.le_of_ble_eq_true rfl) dX9_append_36
      exact ⟨rfl, rfl⟩
  · exact absurd (hq.symm.trans c13_0) (by decide)

abbrev rm_X9_append_ok : Room := { frames := 1, cells := 0, slots := 0, locals := 22 }
set_option maxHeartbeats 4000000 in
set_option maxRecDepth 100000 in
theorem m_X9_append_ok (l : Launch) (g : zG) (x a0 a1 a2 a3 a4 a5 a6 : Nat) (k ty at_ tl : Nat) (thr val : Int32) (bF bC : Bool) (tx : Nat → Int32) (q : Int32) (hq : m_in q 33 126 = true) (ht60 : ty < 60) (sz : Nat) : zWR l yX9_append cX9_append 2 (Option.some Jvm.ClassFile.FieldType.int) rm_X9_append_ok g [.ref x, .int q] ([[(x, .inr (12, [.ref a0, .ref a1, .ref a2, .int (nI k), .ref a3, .ref a4, .ref a5, .int (nI ty), .int thr, .int (nI at_), .int (zb bF), .int val, .ref a6, .int (nI tl), .int (zb bC)]))], [(a5, .inl (g.2.1 0, 60, .inl tx))]] : List va_W) 0 0 sz (fun zv gs' => zv = some (.int (nI (ty + 1))) ∧ gs' = [[(x, .inr (12, [.ref a0, .ref a1, .ref a2, .int (nI k), .ref a3, .ref a4, .ref a5, .int (nI (ty + 1)), .int 0, .int (nI at_), .int (zb bF), .int val, .ref a6, .int (nI tl), .int (zb bC)]))], [(a5, .inl (g.2.1 0, 60, .inl (upd tx ty q)))]]) := by
  refine zWR.start (by decide) (Nat.le_of_ble_eq_true rfl) ?_
  intro zp ze s zm zbl zmt zc ls A X hr hlocks hinn hl hAe hW hS hA hA0
  have hx := X.1
  have hb := X.2.1
  have hml := X.2.2.1
  have hown := X.2.2.2.1
  have hls := hl.1
  have hl : lv_has ls 2 [(0, .ref x), (1, .int q)] := hl
  refine lv_aload_n hx hb dX9_append_0 rfl (lv_at hl 0 rfl) ?_
  refine lv_iconst (v := 0) hx hb dX9_append_1 rfl ?_
  refine z_put X hW hS 0 0 rfl rfl zP_RX9_32_12 rfl rfl (Nat.le_of_ble_eq_true rfl) dX9_append_2 (fun H locs hW hS => ?_)
  have hW : zW g A ([[(x, .inr (12, [.ref a0, .ref a1, .ref a2, .int (nI k), .ref a3, .ref a4, .ref a5, .int (nI ty), .int 0, .int (nI at_), .int (zb bF), .int val, .ref a6, .int (nI tl), .int (zb bC)]))], [(a5, .inl (g.2.1 0, 60, .inl tx))]] : List va_W) H := hW
  refine lv_iload_n hx hb dX9_append_5 rfl (lv_at hl 1 rfl) ?_
  refine lv_bipush (v := 33) hx hb dX9_append_6 (by decide) ?_
  refine lv_bipush (v := 126) hx hb dX9_append_8 (by decide) ?_
  refine zc_ro (zr_S (As := [.int q, .int 33, .int 126]) (rest := []) X (m_X9_in l g q 33 126) zL_RX9_36 trivial hS hA0 hls rfl (Nat.le_of_ble_eq_true rfl) ⟨rfl, rfl, Nat.le_of_ble_eq_true rfl, Nat.le_of_ble_eq_true rfl, (Nat.le_of_ble_eq_true rfl), (Nat.le_of_ble_eq_true rfl)⟩ dX9_append_10) ?_
  refine zb_ifne (tgt := 22) hx hb dX9_append_13 (by decide) (fun c13_0 => ?_) (fun c13_0 => ?_)
  · skip
    refine lv_aload_n hx hb dX9_append_22 rfl (lv_at hl 0 rfl) ?_
    refine z_get X (hW.H.at 0 0 rfl rfl) zF_RX9_151_12 rfl dX9_append_23 ?_
    refine lv_bipush (v := 60) hx hb dX9_append_26 (by decide) ?_
    refine lv_icmp_ne (tgt := 37) hx hb dX9_append_28 (by decide) (fun c28_1 => ?_) (fun c28_1 => ?_)
    · skip
      have kc28_1 := mt (zn_eq (a := ty) (b := 60) rfl rfl (by omega) (by omega)).mpr c28_1
      refine lv_aload_n hx hb dX9_append_37 rfl (lv_at hl 0 rfl) ?_
      refine z_get X (hW.H.at 0 0 rfl rfl) zF_RX9_26_12 rfl dX9_append_38 ?_
      refine lv_aload_n hx hb dX9_append_41 rfl (lv_at hl 0 rfl) ?_
      refine z_get X (hW.H.at 0 0 rfl rfl) zF_RX9_151_12 rfl dX9_append_42 ?_
      refine lv_iload_n hx hb dX9_append_45 rfl (lv_at hl 1 rfl) ?_
      refine z_iast X (j := ty) hW hS 1 0 rfl rfl rfl (by omega) (by decide) dX9_append_46 (fun H locs hW hS => ?_)
      have hW : zW g A ([[(x, .inr (12, [.ref a0, .ref a1, .ref a2, .int (nI k), .ref a3, .ref a4, .ref a5, .int (nI ty), .int 0, .int (nI at_), .int (zb bF), .int val, .ref a6, .int (nI tl), .int (zb bC)]))], [(a5, .inl (g.2.1 0, 60, .inl (upd tx ty q)))]] : List va_W) H := hW
      refine lv_aload_n hx hb dX9_append_47 rfl (lv_at hl 0 rfl) ?_
      refine lv_dup hx hb dX9_append_48 rfl ?_
      refine z_get X (hW.H.at 0 0 rfl rfl) zF_RX9_151_12 rfl dX9_append_49 ?_
      refine lv_iconst (v := 1) hx hb dX9_append_52 rfl ?_
      refine lv_iadd hx hb dX9_append_53 ?_
      refine z_stk (b := [.int (nI (ty + 1)), .ref x]) (by rw [show ((nI ty) + 1) = nI (ty + 1) from zx_add rfl rfl]) ?_
      refine z_put X hW hS 0 0 rfl rfl zP_RX9_151_12 rfl rfl (Nat.le_of_ble_eq_true rfl) dX9_append_54 (fun H locs hW hS => ?_)
      have hW : zW g A ([[(x, .inr (12, [.ref a0, .ref a1, .ref a2, .int (nI k), .ref a3, .ref a4, .ref a5, .int (nI (ty + 1)), .int 0, .int (nI at_), .int (zb bF), .int val, .ref a6, .int (nI tl), .int (zb bC)]))], [(a5, .inl (g.2.1 0, 60, .inl (upd tx ty q)))]] : List va_W) H := hW
      refine lv_aload_n hx hb dX9_append_57 rfl (lv_at hl 0 rfl) ?_
      refine z_get X (hW.H.at 0 0 rfl rfl) zF_RX9_151_12 rfl dX9_append_58 ?_
      refine zWR.iret X hAe hW hS hr hlocks ?_ (Nat.le_of_ble_eq_true rfl) (Nat.le_of_ble_eq_true rfl) dX9_append_61
      exact ⟨rfl, rfl⟩
    · exact absurd ((zn_eq (a := ty) (b := 60) rfl rfl (by omega) (by omega)).mp c28_1) (by omega)
  · exact absurd (hq.symm.trans c13_0) (by decide)

abbrev rm_X9_clearBuffer : Room := { frames := 0, cells := 0, slots := 0, locals := 0 }
set_option maxHeartbeats 4000000 in
set_option maxRecDepth 100000 in
theorem m_X9_clearBuffer (l : Launch) (g : zG) (x a0 a1 a2 a3 a4 a5 a6 : Nat) (k ty at_ tl : Nat) (thr val : Int32) (bF bC : Bool)  (sz : Nat) : zWR l yX9_clearBuffer cX9_clearBuffer 2 (Option.some Jvm.ClassFile.FieldType.int) rm_X9_clearBuffer g [.ref x] ([[(x, .inr (12, [.ref a0, .ref a1, .ref a2, .int (nI k), .ref a3, .ref a4, .ref a5, .int (nI ty), .int thr, .int (nI at_), .int (zb bF), .int val, .ref a6, .int (nI tl), .int (zb bC)]))]] : List va_W) 0 0 sz (fun zv gs' => zv = some (.int (nI ty)) ∧ gs' = [[(x, .inr (12, [.ref a0, .ref a1, .ref a2, .int (nI k), .ref a3, .ref a4, .ref a5, .int 0, .int 0, .int (nI at_), .int (zb bF), .int val, .ref a6, .int (nI tl), .int (zb bC)]))]]) := by
  refine zWR.start (by decide) (Nat.le_of_ble_eq_true rfl) ?_
  intro zp ze s zm zbl zmt zc ls A X hr hlocks hinn hl hAe hW hS hA hA0
  have hx := X.1
  have hb := X.2.1
  have hml := X.2.2.1
  have hown := X.2.2.2.1
  have hls := hl.1
  have hl : lv_has ls 2 [(0, .ref x)] := hl
  refine lv_aload_n hx hb dX9_clearBuffer_0 rfl (lv_at hl 0 rfl) ?_
  refine lv_iconst (v := 0) hx hb dX9_clearBuffer_1 rfl ?_
  refine z_put X hW hS 0 0 rfl rfl zP_RX9_32_12 rfl rfl (Nat.le_of_ble_eq_true rfl) dX9_clearBuffer_2 (fun H locs hW hS => ?_)
  have hW : zW g A ([[(x, .inr (12, [.ref a0, .ref a1, .ref a2, .int (nI k), .ref a3, .ref a4, .ref a5, .int (nI ty), .int 0, .int (nI at_), .int (zb bF), .int val, .ref a6, .int (nI tl), .int (zb bC)]))]] : List va_W) H := hW
  refine lv_aload_n hx hb dX9_clearBuffer_5 rfl (lv_at hl 0 rfl) ?_
  refine z_get X (hW.H.at 0 0 rfl rfl) zF_RX9_151_12 rfl dX9_clearBuffer_6 ?_
  refine lv_istore_n (lv' := [(1, .int (nI ty)), (0, .ref x)]) hx hb dX9_clearBuffer_9 rfl hl (by decide) rfl (fun ls hl => ?_)
  have hls := hl.1
  refine lv_aload_n hx hb dX9_clearBuffer_10 rfl (lv_at hl 1 rfl) ?_
  refine lv_iconst (v := 0) hx hb dX9_clearBuffer_11 rfl ?_
  refine z_put X hW hS 0 0 rfl rfl zP_RX9_151_12 rfl rfl (Nat.le_of_ble_eq_true rfl) dX9_clearBuffer_12 (fun H locs hW hS => ?_)
  have hW : zW g A ([[(x, .inr (12, [.ref a0, .ref a1, .ref a2, .int (nI k), .ref a3, .ref a4, .ref a5, .int 0, .int 0, .int (nI at_), .int (zb bF), .int val, .ref a6, .int (nI tl), .int (zb bC)]))]] : List va_W) H := hW
  refine lv_iload_n hx hb dX9_clearBuffer_15 rfl (lv_at hl 0 rfl) ?_
  refine zWR.iret X hAe hW hS hr hlocks ?_ (Nat.le_of_ble_eq_true rfl) (Nat.le_of_ble_eq_true rfl) dX9_clearBuffer_16
  exact ⟨rfl, rfl⟩

abbrev rm_X9_isAt : Room := { frames := 1, cells := 0, slots := 0, locals := 22 }
set_option maxHeartbeats 4000000 in
set_option maxRecDepth 100000 in
theorem m_X9_isAt (l : Launch) (g : zG) (x a0 a1 a2 a3 a4 a5 a6 : Nat) (k ty at_ tl : Nat) (thr val : Int32) (bF bC : Bool) (tx : Nat → Int32) (lo hi : Int32) (hat : at_ < 100000) (hty : ty ≤ 60)  : zRO l yX9_isAt cX9_isAt 3 (Option.some Jvm.ClassFile.FieldType.boolean) rm_X9_isAt g [.ref x, .int lo, .int hi] (fun H => zH g ([[(x, .inr (12, [.ref a0, .ref a1, .ref a2, .int (nI k), .ref a3, .ref a4, .ref a5, .int (nI ty), .int thr, .int (nI at_), .int (zb bF), .int val, .ref a6, .int (nI tl), .int (zb bC)]))], [(a5, .inl (g.2.1 0, 60, .inl tx))]] : List va_W) H) (.int (zb (p_at tx ty at_ lo hi))) := by
  refine zRO.start (by decide) (Nat.le_of_ble_eq_true rfl) ?_
  intro zp ze s zm zbl zmt zc ls X hr hlocks hP hl hS hA0
  have hx := X.1
  have hb := X.2.1
  have hml := X.2.2.1
  have hown := X.2.2.2.1
  have hls := hl.1
  have hl : lv_has ls 3 [(0, .ref x), (1, .int lo), (2, .int hi)] := hl
  refine lv_aload_n hx hb dX9_isAt_0 rfl (lv_at hl 0 rfl) ?_
  refine z_get X (hP.at 0 0 rfl rfl) zF_RX9_154_12 rfl dX9_isAt_1 ?_
  refine lv_aload_n hx hb dX9_isAt_4 rfl (lv_at hl 0 rfl) ?_
  refine z_get X (hP.at 0 0 rfl rfl) zF_RX9_151_12 rfl dX9_isAt_5 ?_
  refine lv_icmp_ge (tgt := 32) hx hb dX9_isAt_8 (by decide) (fun c8_0 => ?_) (fun c8_0 => ?_)
  · skip
    have kc8_0 := (zn_le (a := ty) (b := at_) rfl rfl (by omega) (by omega)).mp c8_0
    refine lv_iconst (v := 0) hx hb dX9_isAt_32 rfl ?_
    refine zRO.zret X hr (zb_nar _) hlocks ?_ dX9_isAt_33
    first | (rw [p_at, decide_eq_false (by omega)]; rfl) | (rw [p_at, decide_eq_true (by omega)]; simp [zb, c8_0])
  · skip
    have kc8_0 := mt (zn_le (a := ty) (b := at_) rfl rfl (by omega) (by omega)).mpr c8_0
    refine lv_aload_n hx hb dX9_isAt_11 rfl (lv_at hl 0 rfl) ?_
    refine z_get X (hP.at 0 0 rfl rfl) zF_RX9_26_12 rfl dX9_isAt_12 ?_
    refine lv_aload_n hx hb dX9_isAt_15 rfl (lv_at hl 0 rfl) ?_
    refine z_get X (hP.at 0 0 rfl rfl) zF_RX9_154_12 rfl dX9_isAt_16 ?_
    refine z_iald X (j := at_) (hP.at 1 0 rfl rfl) rfl (by omega) (by decide) dX9_isAt_19 ?_
    refine lv_iload_n hx hb dX9_isAt_20 rfl (lv_at hl 1 rfl) ?_
    refine lv_iload_n hx hb dX9_isAt_21 rfl (lv_at hl 2 rfl) ?_
    refine zc_ro (zr_S (As := [.int (tx at_), .int lo, .int hi]) (rest := []) X (m_X9_in l g (tx at_) lo hi) zL_RX9_36 trivial hS hA0 hls rfl (Nat.le_of_ble_eq_true rfl) ⟨rfl, rfl, Nat.le_of_ble_eq_true rfl, Nat.le_of_ble_eq_true rfl, (Nat.le_of_ble_eq_true rfl), (Nat.le_of_ble_eq_true rfl)⟩ dX9_isAt_22) ?_
    refine zb_ifeq (tgt := 32) hx hb dX9_isAt_25 (by decide) (fun c25_1 => ?_) (fun c25_1 => ?_)
    · skip
      refine lv_iconst (v := 0) hx hb dX9_isAt_32 rfl ?_
      refine zRO.zret X hr (zb_nar _) hlocks ?_ dX9_isAt_33
      first | (rw [p_at, decide_eq_false (by omega)]; rfl) | (rw [p_at, decide_eq_true (by omega)]; simp [zb, c8_0, c25_1])
    · skip
      refine lv_iconst (v := 1) hx hb dX9_isAt_28 rfl ?_
      refine lv_goto (tgt := 33) hx hb dX9_isAt_29 (by decide) ?_
      refine zRO.zret X hr (zb_nar _) hlocks ?_ dX9_isAt_33
      first | (rw [p_at, decide_eq_false (by omega)]; rfl) | (rw [p_at, decide_eq_true (by omega)]; simp [zb, c8_0, c25_1])

abbrev rm_X9_stops : Room := { frames := 0, cells := 0, slots := 0, locals := 0 }
set_option maxHeartbeats 4000000 in
set_option maxRecDepth 100000 in
theorem m_X9_stops (l : Launch) (g : zG) (x a0 a1 a2 a3 a4 a5 a6 : Nat) (k ty at_ tl : Nat) (thr val : Int32) (bF bC : Bool) (hty : ty < 100000) (hat : at_ < 100000) (sz : Nat) : zWR l yX9_stops cX9_stops 1 (Option.some Jvm.ClassFile.FieldType.boolean) rm_X9_stops g [.ref x] ([[(x, .inr (12, [.ref a0, .ref a1, .ref a2, .int (nI k), .ref a3, .ref a4, .ref a5, .int (nI ty), .int thr, .int (nI at_), .int (zb bF), .int val, .ref a6, .int (nI tl), .int (zb bC)]))]] : List va_W) 0 0 sz (fun zv gs' => zv = some (.int (0)) ∧ gs' = [[(x, .inr (12, [.ref a0, .ref a1, .ref a2, .int (nI k), .ref a3, .ref a4, .ref a5, .int (nI ty), .int thr, .int (nI at_), .int (zb (decide (at_ < ty))), .int val, .ref a6, .int (nI tl), .int (zb bC)]))]]) := by
  refine zWR.start (by decide) (Nat.le_of_ble_eq_true rfl) ?_
  intro zp ze s zm zbl zmt zc ls A X hr hlocks hinn hl hAe hW hS hA hA0
  have hx := X.1
  have hb := X.2.1
  have hml := X.2.2.1
  have hown := X.2.2.2.1
  have hls := hl.1
  have hl : lv_has ls 1 [(0, .ref x)] := hl
  refine lv_aload_n hx hb dX9_stops_0 rfl (lv_at hl 0 rfl) ?_
  refine lv_aload_n hx hb dX9_stops_1 rfl (lv_at hl 0 rfl) ?_
  refine z_get X (hW.H.at 0 0 rfl rfl) zF_RX9_154_12 rfl dX9_stops_2 ?_
  refine lv_aload_n hx hb dX9_stops_5 rfl (lv_at hl 0 rfl) ?_
  refine z_get X (hW.H.at 0 0 rfl rfl) zF_RX9_151_12 rfl dX9_stops_6 ?_
  refine lv_icmp_ge (tgt := 16) hx hb dX9_stops_9 (by decide) (fun c9_0 => ?_) (fun c9_0 => ?_)
  · skip
    have kc9_0 := (zn_le (a := ty) (b := at_) rfl rfl (by omega) (by omega)).mp c9_0
    refine lv_iconst (v := 0) hx hb dX9_stops_16 rfl ?_
    refine z_put X hW hS 0 0 rfl rfl zP_RX9_157_12 rfl rfl (Nat.le_of_ble_eq_true rfl) dX9_stops_17 (fun H locs hW hS => ?_)
    have hW : zW g A ([[(x, .inr (12, [.ref a0, .ref a1, .ref a2, .int (nI k), .ref a3, .ref a4, .ref a5, .int (nI ty), .int thr, .int (nI at_), .int 0, .int val, .ref a6, .int (nI tl), .int (zb bC)]))]] : List va_W) H := hW
    refine lv_iconst (v := 0) hx hb dX9_stops_20 rfl ?_
    refine zWR.zret X hAe hW hS hr rfl hlocks ?_ (Nat.le_of_ble_eq_true rfl) (Nat.le_of_ble_eq_true rfl) dX9_stops_21
    first | (rw [decide_eq_false (show ¬ at_ < ty by omega)]; exact ⟨rfl, rfl⟩) | (rw [decide_eq_true (show at_ < ty by omega)]; exact ⟨rfl, rfl⟩)
  · skip
    have kc9_0 := mt (zn_le (a := ty) (b := at_) rfl rfl (by omega) (by omega)).mpr c9_0
    refine lv_iconst (v := 1) hx hb dX9_stops_12 rfl ?_
    refine lv_goto (tgt := 17) hx hb dX9_stops_13 (by decide) ?_
    refine z_put X hW hS 0 0 rfl rfl zP_RX9_157_12 rfl rfl (Nat.le_of_ble_eq_true rfl) dX9_stops_17 (fun H locs hW hS => ?_)
    have hW : zW g A ([[(x, .inr (12, [.ref a0, .ref a1, .ref a2, .int (nI k), .ref a3, .ref a4, .ref a5, .int (nI ty), .int thr, .int (nI at_), .int 1, .int val, .ref a6, .int (nI tl), .int (zb bC)]))]] : List va_W) H := hW
    refine lv_iconst (v := 0) hx hb dX9_stops_20 rfl ?_
    refine zWR.zret X hAe hW hS hr rfl hlocks ?_ (Nat.le_of_ble_eq_true rfl) (Nat.le_of_ble_eq_true rfl) dX9_stops_21
    first | (rw [decide_eq_false (show ¬ at_ < ty by omega)]; exact ⟨rfl, rfl⟩) | (rw [decide_eq_true (show at_ < ty by omega)]; exact ⟨rfl, rfl⟩)

abbrev rm_X9_isDigit_y : Room := { frames := 2, cells := 0, slots := 0, locals := 44 }
set_option maxHeartbeats 4000000 in
set_option maxRecDepth 100000 in
theorem m_X9_isDigit_y (l : Launch) (g : zG) (x a0 a1 a2 a3 a4 a5 a6 : Nat) (k ty at_ tl : Nat) (thr val : Int32) (bF bC : Bool) (tx to : Nat → Int32) (q : Nat) (hi : Int32) (hq : q < 3) (htl : tl < 30) (hat : at_ < 100000) (hty : ty ≤ 60) (hp : p_at tx ty at_ 48 hi = true) (sz : Nat) : zWR l yX9_isDigit cX9_isDigit 3 (Option.some Jvm.ClassFile.FieldType.boolean) rm_X9_isDigit_y g [.ref x, .int (nI q), .int hi] ([[(x, .inr (12, [.ref a0, .ref a1, .ref a2, .int (nI k), .ref a3, .ref a4, .ref a5, .int (nI ty), .int thr, .int (nI at_), .int (zb bF), .int val, .ref a6, .int (nI tl), .int (zb bC)]))], [(a5, .inl (g.2.1 0, 60, .inl tx))], [(a6, .inl (g.2.1 0, 93, .inl to))]] : List va_W) 0 0 sz (fun zv gs' => zv = some (.int (1)) ∧ gs' = [[(x, .inr (12, [.ref a0, .ref a1, .ref a2, .int (nI k), .ref a3, .ref a4, .ref a5, .int (nI ty), .int thr, .int (nI (at_ + 1)), .int (zb bF), .int val, .ref a6, .int (nI tl), .int (zb bC)]))], [(a5, .inl (g.2.1 0, 60, .inl tx))], [(a6, .inl (g.2.1 0, 93, .inl (upd to (3 * tl + q) (tx at_ - 48))))]]) := by
  refine zWR.start (by decide) (Nat.le_of_ble_eq_true rfl) ?_
  intro zp ze s zm zbl zmt zc ls A X hr hlocks hinn hl hAe hW hS hA hA0
  have hx := X.1
  have hb := X.2.1
  have hml := X.2.2.1
  have hown := X.2.2.2.1
  have hls := hl.1
  have hl : lv_has ls 3 [(0, .ref x), (1, .int (nI q)), (2, .int hi)] := hl
  have hlt := p_at_lt hp
  refine lv_aload_n hx hb dX9_isDigit_0 rfl (lv_at hl 0 rfl) ?_
  refine lv_bipush (v := 48) hx hb dX9_isDigit_1 (by decide) ?_
  refine lv_iload_n hx hb dX9_isDigit_3 rfl (lv_at hl 2 rfl) ?_
  refine zc_ro (zr_V (As := [.int 48, .int hi]) (rest := []) X (m_X9_isAt l g x a0 a1 a2 a3 a4 a5 a6 k ty at_ tl thr val bF bC tx 48 hi (by omega) (by omega)) zL_RX9_160 (ci := 12) rfl (hW.H.at 0 0 rfl rfl) (zH.cons (va_P.one (hW.H.at 0 0 rfl rfl)) (zH.cons (va_P.one (hW.H.at 1 0 rfl rfl)) zH.nil)) hS hA0 hls rfl (Nat.le_of_ble_eq_true rfl) ⟨rfl, rfl, Nat.le_of_ble_eq_true rfl, Nat.le_of_ble_eq_true rfl, (Nat.le_of_ble_eq_true rfl), (Nat.le_of_ble_eq_true rfl)⟩ dX9_isDigit_4) ?_
  refine zb_ifne (tgt := 15) hx hb dX9_isDigit_7 (by decide) (fun c7_0 => ?_) (fun c7_0 => ?_)
  · skip
    refine lv_aload_n hx hb dX9_isDigit_15 rfl (lv_at hl 0 rfl) ?_
    refine z_get X (hW.H.at 0 0 rfl rfl) zF_RX9_29_12 rfl dX9_isDigit_16 ?_
    refine lv_iconst (v := 3) hx hb dX9_isDigit_19 rfl ?_
    refine lv_aload_n hx hb dX9_isDigit_20 rfl (lv_at hl 0 rfl) ?_
    refine z_get X (hW.H.at 0 0 rfl rfl) zF_RX9_167_12 rfl dX9_isDigit_21 ?_
    refine lv_imul hx hb dX9_isDigit_24 ?_
    refine lv_iload_n hx hb dX9_isDigit_25 rfl (lv_at hl 1 rfl) ?_
    refine lv_iadd hx hb dX9_isDigit_26 ?_
    refine lv_aload_n hx hb dX9_isDigit_27 rfl (lv_at hl 0 rfl) ?_
    refine z_get X (hW.H.at 0 0 rfl rfl) zF_RX9_26_12 rfl dX9_isDigit_28 ?_
    refine lv_aload_n hx hb dX9_isDigit_31 rfl (lv_at hl 0 rfl) ?_
    refine z_get X (hW.H.at 0 0 rfl rfl) zF_RX9_154_12 rfl dX9_isDigit_32 ?_
    refine z_iald X (j := at_) (hW.H.at 1 0 rfl rfl) rfl (by omega) (by decide) dX9_isDigit_35 ?_
    refine lv_bipush (v := 48) hx hb dX9_isDigit_36 (by decide) ?_
    refine lv_isub hx hb dX9_isDigit_38 ?_
    refine z_iast X (j := (3 * tl) + q) hW hS 2 0 rfl rfl (zx_add (zx_mul rfl rfl) rfl) (by omega) (by decide) dX9_isDigit_39 (fun H locs hW hS => ?_)
    have hW : zW g A ([[(x, .inr (12, [.ref a0, .ref a1, .ref a2, .int (nI k), .ref a3, .ref a4, .ref a5, .int (nI ty), .int thr, .int (nI at_), .int (zb bF), .int val, .ref a6, .int (nI tl), .int (zb bC)]))], [(a5, .inl (g.2.1 0, 60, .inl tx))], [(a6, .inl (g.2.1 0, 93, .inl (upd to ((3 * tl) + q) ((tx at_) - 48))))]] : List va_W) H := hW
    refine lv_aload_n hx hb dX9_isDigit_40 rfl (lv_at hl 0 rfl) ?_
    refine lv_dup hx hb dX9_isDigit_41 rfl ?_
    refine z_get X (hW.H.at 0 0 rfl rfl) zF_RX9_154_12 rfl dX9_isDigit_42 ?_
    refine lv_iconst (v := 1) hx hb dX9_isDigit_45 rfl ?_
    refine lv_iadd hx hb dX9_isDigit_46 ?_
    refine z_stk (b := [.int (nI (at_ + 1)), .ref x]) (by rw [show ((nI at_) + 1) = nI (at_ + 1) from zx_add rfl rfl]) ?_
    refine z_put X hW hS 0 0 rfl rfl zP_RX9_154_12 rfl rfl (Nat.le_of_ble_eq_true rfl) dX9_isDigit_47 (fun H locs hW hS => ?_)
    have hW : zW g A ([[(x, .inr (12, [.ref a0, .ref a1, .ref a2, .int (nI k), .ref a3, .ref a4, .ref a5, .int (nI ty), .int thr, .int (nI (at_ + 1)), .int (zb bF), .int val, .ref a6, .int (nI tl), .int (zb bC)]))], [(a5, .inl (g.2.1 0, 60, .inl tx))], [(a6, .inl (g.2.1 0, 93, .inl (upd to ((3 * tl) + q) ((tx at_) - 48))))]] : List va_W) H := hW
    refine lv_iconst (v := 1) hx hb dX9_isDigit_50 rfl ?_
    refine zWR.zret X hAe hW hS hr rfl hlocks ?_ (Nat.le_of_ble_eq_true rfl) (Nat.le_of_ble_eq_true rfl) dX9_isDigit_51
    exact ⟨rfl, rfl⟩
  · exact absurd (hp.symm.trans c7_0) (by decide)

abbrev rm_X9_isDigit_n : Room := { frames := 2, cells := 0, slots := 0, locals := 44 }
set_option maxHeartbeats 4000000 in
set_option maxRecDepth 100000 in
theorem m_X9_isDigit_n (l : Launch) (g : zG) (x a0 a1 a2 a3 a4 a5 a6 : Nat) (k ty at_ tl : Nat) (thr val : Int32) (bF bC : Bool) (tx to : Nat → Int32) (q : Nat) (hi : Int32) (hq : q < 3) (htl : tl < 30) (hat : at_ < 100000) (hty : ty ≤ 60) (hp : p_at tx ty at_ 48 hi = false) (sz : Nat) : zWR l yX9_isDigit cX9_isDigit 3 (Option.some Jvm.ClassFile.FieldType.boolean) rm_X9_isDigit_n g [.ref x, .int (nI q), .int hi] ([[(x, .inr (12, [.ref a0, .ref a1, .ref a2, .int (nI k), .ref a3, .ref a4, .ref a5, .int (nI ty), .int thr, .int (nI at_), .int (zb bF), .int val, .ref a6, .int (nI tl), .int (zb bC)]))], [(a5, .inl (g.2.1 0, 60, .inl tx))], [(a6, .inl (g.2.1 0, 93, .inl to))]] : List va_W) 0 0 sz (fun zv gs' => zv = some (.int (0)) ∧ gs' = [[(x, .inr (12, [.ref a0, .ref a1, .ref a2, .int (nI k), .ref a3, .ref a4, .ref a5, .int (nI ty), .int thr, .int (nI at_), .int (zb (decide (at_ < ty))), .int val, .ref a6, .int (nI tl), .int (zb bC)]))], [(a5, .inl (g.2.1 0, 60, .inl tx))], [(a6, .inl (g.2.1 0, 93, .inl to))]]) := by
  refine zWR.start (by decide) (Nat.le_of_ble_eq_true rfl) ?_
  intro zp ze s zm zbl zmt zc ls A X hr hlocks hinn hl hAe hW hS hA hA0
  have hx := X.1
  have hb := X.2.1
  have hml := X.2.2.1
  have hown := X.2.2.2.1
  have hls := hl.1
  have hl : lv_has ls 3 [(0, .ref x), (1, .int (nI q)), (2, .int hi)] := hl
  refine lv_aload_n hx hb dX9_isDigit_0 rfl (lv_at hl 0 rfl) ?_
  refine lv_bipush (v := 48) hx hb dX9_isDigit_1 (by decide) ?_
  refine lv_iload_n hx hb dX9_isDigit_3 rfl (lv_at hl 2 rfl) ?_
  refine zc_ro (zr_V (As := [.int 48, .int hi]) (rest := []) X (m_X9_isAt l g x a0 a1 a2 a3 a4 a5 a6 k ty at_ tl thr val bF bC tx 48 hi (by omega) (by omega)) zL_RX9_160 (ci := 12) rfl (hW.H.at 0 0 rfl rfl) (zH.cons (va_P.one (hW.H.at 0 0 rfl rfl)) (zH.cons (va_P.one (hW.H.at 1 0 rfl rfl)) zH.nil)) hS hA0 hls rfl (Nat.le_of_ble_eq_true rfl) ⟨rfl, rfl, Nat.le_of_ble_eq_true rfl, Nat.le_of_ble_eq_true rfl, (Nat.le_of_ble_eq_true rfl), (Nat.le_of_ble_eq_true rfl)⟩ dX9_isDigit_4) ?_
  refine zb_ifne (tgt := 15) hx hb dX9_isDigit_7 (by decide) (fun c7_0 => ?_) (fun c7_0 => ?_)
  · exact absurd (hp.symm.trans c7_0) (by decide)
  · skip
    refine lv_aload_n hx hb dX9_isDigit_10 rfl (lv_at hl 0 rfl) ?_
    refine zc_wr (gc := [[(x, .inr (12, [.ref a0, .ref a1, .ref a2, .int (nI k), .ref a3, .ref a4, .ref a5, .int (nI ty), .int thr, .int (nI at_), .int (zb bF), .int val, .ref a6, .int (nI tl), .int (zb bC)]))]]) (gr := [[(a5, .inl (g.2.1 0, 60, .inl tx))], [(a6, .inl (g.2.1 0, 93, .inl to))]]) (zr_V (As := []) (rest := []) X (m_X9_stops l g x a0 a1 a2 a3 a4 a5 a6 k ty at_ tl thr val bF bC (by omega) (by omega) _) zL_RX9_163 (ci := 12) rfl (hW.H.at 0 0 rfl rfl) (zW.pre (gc := [[(x, .inr (12, [.ref a0, .ref a1, .ref a2, .int (nI k), .ref a3, .ref a4, .ref a5, .int (nI ty), .int thr, .int (nI at_), .int (zb bF), .int val, .ref a6, .int (nI tl), .int (zb bC)]))]]) (gr := [[(a5, .inl (g.2.1 0, 60, .inl tx))], [(a6, .inl (g.2.1 0, 93, .inl to))]]) hW hA0) hS hA0 hls rfl (Nat.le_of_ble_eq_true rfl) ⟨rfl, rfl, Nat.le_of_ble_eq_true rfl, Nat.le_of_ble_eq_true rfl, (Nat.le_of_ble_eq_true rfl), (Nat.le_of_ble_eq_true rfl)⟩ dX9_isDigit_11) hW hS hA (fun v gc' H locs hpost hW hS => ?_)
    obtain ⟨rfl, rfl⟩ := hpost
    have hW : zW g A ([[(x, .inr (12, [.ref a0, .ref a1, .ref a2, .int (nI k), .ref a3, .ref a4, .ref a5, .int (nI ty), .int thr, .int (nI at_), .int (zb (decide (at_ < ty))), .int val, .ref a6, .int (nI tl), .int (zb bC)]))], [(a5, .inl (g.2.1 0, 60, .inl tx))], [(a6, .inl (g.2.1 0, 93, .inl to))]] : List va_W) H := hW
    refine W.eq (g2 := F0 zm 14 ls [.int 0]) rfl ?_
    refine zWR.zret X hAe hW hS hr rfl hlocks ?_ (Nat.le_of_ble_eq_true rfl) (Nat.le_of_ble_eq_true rfl) dX9_isDigit_14
    exact ⟨rfl, rfl⟩

abbrev rm_X9_areDays : Room := { frames := 2, cells := 0, slots := 0, locals := 44 }
set_option maxHeartbeats 4000000 in
set_option maxRecDepth 100000 in
theorem m_X9_areDays (l : Launch) (g : zG) (x a0 a1 a2 a3 a4 a5 a6 : Nat) (k ty at_ tl : Nat) (thr val : Int32) (bF bC : Bool) (tx to : Nat → Int32) (q : Nat) (hq : q < 3) (htl : tl < 30) (hat : at_ < 900) (hty : ty ≤ 60)  (sz : Nat) : zWR l yX9_areDays cX9_areDays 2 (Option.some Jvm.ClassFile.FieldType.boolean) rm_X9_areDays g [.ref x, .int (nI q)] ([[(x, .inr (12, [.ref a0, .ref a1, .ref a2, .int (nI k), .ref a3, .ref a4, .ref a5, .int (nI ty), .int thr, .int (nI at_), .int (zb bF), .int val, .ref a6, .int (nI tl), .int (zb bC)]))], [(a5, .inl (g.2.1 0, 60, .inl tx))], [(a6, .inl (g.2.1 0, 93, .inl to))]] : List va_W) 0 0 sz (fun zv gs' => ∃ (to' : Nat → Int32) (val' : Int32), zv = some (.int (zb (p_dy tx ty at_).1)) ∧ gs' = [[(x, .inr (12, [.ref a0, .ref a1, .ref a2, .int (nI k), .ref a3, .ref a4, .ref a5, .int (nI ty), .int thr, .int (nI ((p_dy tx ty at_).2.1)), .int (zb (if (p_dy tx ty at_).1 then bF else decide ((p_dy tx ty at_).2.1 < ty))), .int val', .ref a6, .int (nI tl), .int (zb bC)]))], [(a5, .inl (g.2.1 0, 60, .inl tx))], [(a6, .inl (g.2.1 0, 93, .inl to'))]] ∧ ((p_dy tx ty at_).1 = true → to' (3 * tl + q) = (p_dy tx ty at_).2.2.1) ∧ ∀ j, j ≠ 3 * tl + q → to' j = to j) := by
  refine zWR.start (by decide) (Nat.le_of_ble_eq_true rfl) ?_
  intro zp ze s zm zbl zmt zc ls A X hr hlocks hinn hl hAe hW hS hA hA0
  have hx := X.1
  have hb := X.2.1
  have hml := X.2.2.1
  have hown := X.2.2.2.1
  have hls := hl.1
  have hl : lv_has ls 2 [(0, .ref x), (1, .int (nI q))] := hl
  refine lv_aload_n hx hb dX9_areDays_0 rfl (lv_at hl 0 rfl) ?_
  refine lv_bipush (v := 49) hx hb dX9_areDays_1 (by decide) ?_
  refine lv_bipush (v := 57) hx hb dX9_areDays_3 (by decide) ?_
  refine zc_ro (zr_V (As := [.int 49, .int 57]) (rest := []) X (m_X9_isAt l g x a0 a1 a2 a3 a4 a5 a6 k ty at_ tl thr val bF bC tx 49 57 (by omega) (by omega)) zL_RX9_160 (ci := 12) rfl (hW.H.at 0 0 rfl rfl) (zH.cons (va_P.one (hW.H.at 0 0 rfl rfl)) (zH.cons (va_P.one (hW.H.at 1 0 rfl rfl)) zH.nil)) hS hA0 hls rfl (Nat.le_of_ble_eq_true rfl) ⟨rfl, rfl, Nat.le_of_ble_eq_true rfl, Nat.le_of_ble_eq_true rfl, (Nat.le_of_ble_eq_true rfl), (Nat.le_of_ble_eq_true rfl)⟩ dX9_areDays_5) ?_
  refine zb_ifne (tgt := 16) hx hb dX9_areDays_8 (by decide) (fun c8_0 => ?_) (fun c8_0 => ?_)
  · skip
    have hlt := p_at_lt c8_0
    refine lv_aload_n hx hb dX9_areDays_16 rfl (lv_at hl 0 rfl) ?_
    refine lv_aload_n hx hb dX9_areDays_17 rfl (lv_at hl 0 rfl) ?_
    refine z_get X (hW.H.at 0 0 rfl rfl) zF_RX9_26_12 rfl dX9_areDays_18 ?_
    refine lv_aload_n hx hb dX9_areDays_21 rfl (lv_at hl 0 rfl) ?_
    refine z_get X (hW.H.at 0 0 rfl rfl) zF_RX9_154_12 rfl dX9_areDays_22 ?_
    refine z_iald X (j := at_) (hW.H.at 1 0 rfl rfl) rfl (by omega) (by decide) dX9_areDays_25 ?_
    refine lv_bipush (v := 48) hx hb dX9_areDays_26 (by decide) ?_
    refine lv_isub hx hb dX9_areDays_28 ?_
    refine z_put X hW hS 0 0 rfl rfl zP_RX9_170_12 rfl rfl (Nat.le_of_ble_eq_true rfl) dX9_areDays_29 (fun H locs hW hS => ?_)
    have hW : zW g A ([[(x, .inr (12, [.ref a0, .ref a1, .ref a2, .int (nI k), .ref a3, .ref a4, .ref a5, .int (nI ty), .int thr, .int (nI at_), .int (zb bF), .int ((tx at_) - 48), .ref a6, .int (nI tl), .int (zb bC)]))], [(a5, .inl (g.2.1 0, 60, .inl tx))], [(a6, .inl (g.2.1 0, 93, .inl to))]] : List va_W) H := hW
    refine lv_aload_n hx hb dX9_areDays_32 rfl (lv_at hl 0 rfl) ?_
    refine lv_dup hx hb dX9_areDays_33 rfl ?_
    refine z_get X (hW.H.at 0 0 rfl rfl) zF_RX9_154_12 rfl dX9_areDays_34 ?_
    refine lv_iconst (v := 1) hx hb dX9_areDays_37 rfl ?_
    refine lv_iadd hx hb dX9_areDays_38 ?_
    refine z_stk (b := [.int (nI (at_ + 1)), .ref x]) (by rw [show ((nI at_) + 1) = nI (at_ + 1) from zx_add rfl rfl]) ?_
    refine z_put X hW hS 0 0 rfl rfl zP_RX9_154_12 rfl rfl (Nat.le_of_ble_eq_true rfl) dX9_areDays_39 (fun H locs hW hS => ?_)
    have hW : zW g A ([[(x, .inr (12, [.ref a0, .ref a1, .ref a2, .int (nI k), .ref a3, .ref a4, .ref a5, .int (nI ty), .int thr, .int (nI (at_ + 1)), .int (zb bF), .int ((tx at_) - 48), .ref a6, .int (nI tl), .int (zb bC)]))], [(a5, .inl (g.2.1 0, 60, .inl tx))], [(a6, .inl (g.2.1 0, 93, .inl to))]] : List va_W) H := hW
    refine lv_aload_n hx hb dX9_areDays_42 rfl (lv_at hl 0 rfl) ?_
    refine lv_bipush (v := 48) hx hb dX9_areDays_43 (by decide) ?_
    refine lv_bipush (v := 57) hx hb dX9_areDays_45 (by decide) ?_
    refine zc_ro (zr_V (As := [.int 48, .int 57]) (rest := []) X (m_X9_isAt l g x a0 a1 a2 a3 a4 a5 a6 k ty (at_ + 1) tl thr ((tx at_) - 48) bF bC tx 48 57 (by omega) (by omega)) zL_RX9_160 (ci := 12) rfl (hW.H.at 0 0 rfl rfl) (zH.cons (va_P.one (hW.H.at 0 0 rfl rfl)) (zH.cons (va_P.one (hW.H.at 1 0 rfl rfl)) zH.nil)) hS hA0 hls rfl (Nat.le_of_ble_eq_true rfl) ⟨rfl, rfl, Nat.le_of_ble_eq_true rfl, Nat.le_of_ble_eq_true rfl, (Nat.le_of_ble_eq_true rfl), (Nat.le_of_ble_eq_true rfl)⟩ dX9_areDays_47) ?_
    refine zb_ifeq (tgt := 112) hx hb dX9_areDays_50 (by decide) (fun c50_1 => ?_) (fun c50_1 => ?_)
    · skip
      refine lv_aload_n hx hb dX9_areDays_112 rfl (lv_at hl 0 rfl) ?_
      refine z_get X (hW.H.at 0 0 rfl rfl) zF_RX9_29_12 rfl dX9_areDays_113 ?_
      refine lv_iconst (v := 3) hx hb dX9_areDays_116 rfl ?_
      refine lv_aload_n hx hb dX9_areDays_117 rfl (lv_at hl 0 rfl) ?_
      refine z_get X (hW.H.at 0 0 rfl rfl) zF_RX9_167_12 rfl dX9_areDays_118 ?_
      refine lv_imul hx hb dX9_areDays_121 ?_
      refine lv_iload_n hx hb dX9_areDays_122 rfl (lv_at hl 1 rfl) ?_
      refine lv_iadd hx hb dX9_areDays_123 ?_
      refine lv_aload_n hx hb dX9_areDays_124 rfl (lv_at hl 0 rfl) ?_
      refine z_get X (hW.H.at 0 0 rfl rfl) zF_RX9_170_12 rfl dX9_areDays_125 ?_
      refine z_iast X (j := (3 * tl) + q) hW hS 2 0 rfl rfl (zx_add (zx_mul rfl rfl) rfl) (by omega) (by decide) dX9_areDays_128 (fun H locs hW hS => ?_)
      have hW : zW g A ([[(x, .inr (12, [.ref a0, .ref a1, .ref a2, .int (nI k), .ref a3, .ref a4, .ref a5, .int (nI ty), .int thr, .int (nI (at_ + 1)), .int (zb bF), .int ((tx at_) - 48), .ref a6, .int (nI tl), .int (zb bC)]))], [(a5, .inl (g.2.1 0, 60, .inl tx))], [(a6, .inl (g.2.1 0, 93, .inl (upd to ((3 * tl) + q) ((tx at_) - 48))))]] : List va_W) H := hW
      refine lv_iconst (v := 1) hx hb dX9_areDays_129 rfl ?_
      refine zWR.zret X hAe hW hS hr rfl hlocks ?_ (Nat.le_of_ble_eq_true rfl) (Nat.le_of_ble_eq_true rfl) dX9_areDays_130
      have e : p_dy tx ty at_ = (true, at_ + 1, tx at_ - 48, 0) := by simp [p_dy, p_v2, c8_0, c50_1]
      rw [e]
      exact ⟨_, _, rfl, rfl, fun _ => upd_s, fun _ h => upd_n h⟩
    · skip
      have hlt2 := p_at_lt c50_1
      refine lv_bipush (v := 10) hx hb dX9_areDays_53 (by decide) ?_
      refine lv_aload_n hx hb dX9_areDays_55 rfl (lv_at hl 0 rfl) ?_
      refine z_get X (hW.H.at 0 0 rfl rfl) zF_RX9_170_12 rfl dX9_areDays_56 ?_
      refine lv_imul hx hb dX9_areDays_59 ?_
      refine lv_aload_n hx hb dX9_areDays_60 rfl (lv_at hl 0 rfl) ?_
      refine z_get X (hW.H.at 0 0 rfl rfl) zF_RX9_26_12 rfl dX9_areDays_61 ?_
      refine lv_aload_n hx hb dX9_areDays_64 rfl (lv_at hl 0 rfl) ?_
      refine z_get X (hW.H.at 0 0 rfl rfl) zF_RX9_154_12 rfl dX9_areDays_65 ?_
      refine z_iald X (j := at_ + 1) (hW.H.at 1 0 rfl rfl) rfl (by omega) (by decide) dX9_areDays_68 ?_
      refine lv_iadd hx hb dX9_areDays_69 ?_
      refine lv_bipush (v := 48) hx hb dX9_areDays_70 (by decide) ?_
      refine lv_isub hx hb dX9_areDays_72 ?_
      refine lv_bipush (v := 60) hx hb dX9_areDays_73 (by decide) ?_
      refine lv_icmp_gt (tgt := 112) hx hb dX9_areDays_75 (by decide) (fun c75_2 => ?_) (fun c75_2 => ?_)
      · skip
        refine lv_aload_n hx hb dX9_areDays_112 rfl (lv_at hl 0 rfl) ?_
        refine z_get X (hW.H.at 0 0 rfl rfl) zF_RX9_29_12 rfl dX9_areDays_113 ?_
        refine lv_iconst (v := 3) hx hb dX9_areDays_116 rfl ?_
        refine lv_aload_n hx hb dX9_areDays_117 rfl (lv_at hl 0 rfl) ?_
        refine z_get X (hW.H.at 0 0 rfl rfl) zF_RX9_167_12 rfl dX9_areDays_118 ?_
        refine lv_imul hx hb dX9_areDays_121 ?_
        refine lv_iload_n hx hb dX9_areDays_122 rfl (lv_at hl 1 rfl) ?_
        refine lv_iadd hx hb dX9_areDays_123 ?_
        refine lv_aload_n hx hb dX9_areDays_124 rfl (lv_at hl 0 rfl) ?_
        refine z_get X (hW.H.at 0 0 rfl rfl) zF_RX9_170_12 rfl dX9_areDays_125 ?_
        refine z_iast X (j := (3 * tl) + q) hW hS 2 0 rfl rfl (zx_add (zx_mul rfl rfl) rfl) (by omega) (by decide) dX9_areDays_128 (fun H locs hW hS => ?_)
        have hW : zW g A ([[(x, .inr (12, [.ref a0, .ref a1, .ref a2, .int (nI k), .ref a3, .ref a4, .ref a5, .int (nI ty), .int thr, .int (nI (at_ + 1)), .int (zb bF), .int ((tx at_) - 48), .ref a6, .int (nI tl), .int (zb bC)]))], [(a5, .inl (g.2.1 0, 60, .inl tx))], [(a6, .inl (g.2.1 0, 93, .inl (upd to ((3 * tl) + q) ((tx at_) - 48))))]] : List va_W) H := hW
        refine lv_iconst (v := 1) hx hb dX9_areDays_129 rfl ?_
        refine zWR.zret X hAe hW hS hr rfl hlocks ?_ (Nat.le_of_ble_eq_true rfl) (Nat.le_of_ble_eq_true rfl) dX9_areDays_130
        have e : p_dy tx ty at_ = (true, at_ + 1, tx at_ - 48, 0) := by simp [p_dy, p_v2, c8_0, c50_1, c75_2]
        rw [e]
        exact ⟨_, _, rfl, rfl, fun _ => upd_s, fun _ h => upd_n h⟩
      · skip
        refine lv_aload_n hx hb dX9_areDays_78 rfl (lv_at hl 0 rfl) ?_
        refine lv_bipush (v := 10) hx hb dX9_areDays_79 (by decide) ?_
        refine lv_aload_n hx hb dX9_areDays_81 rfl (lv_at hl 0 rfl) ?_
        refine z_get X (hW.H.at 0 0 rfl rfl) zF_RX9_170_12 rfl dX9_areDays_82 ?_
        refine lv_imul hx hb dX9_areDays_85 ?_
        refine lv_aload_n hx hb dX9_areDays_86 rfl (lv_at hl 0 rfl) ?_
        refine z_get X (hW.H.at 0 0 rfl rfl) zF_RX9_26_12 rfl dX9_areDays_87 ?_
        refine lv_aload_n hx hb dX9_areDays_90 rfl (lv_at hl 0 rfl) ?_
        refine z_get X (hW.H.at 0 0 rfl rfl) zF_RX9_154_12 rfl dX9_areDays_91 ?_
        refine z_iald X (j := at_ + 1) (hW.H.at 1 0 rfl rfl) rfl (by omega) (by decide) dX9_areDays_94 ?_
        refine lv_iadd hx hb dX9_areDays_95 ?_
        refine lv_bipush (v := 48) hx hb dX9_areDays_96 (by decide) ?_
        refine lv_isub hx hb dX9_areDays_98 ?_
        refine z_put X hW hS 0 0 rfl rfl zP_RX9_170_12 rfl rfl (Nat.le_of_ble_eq_true rfl) dX9_areDays_99 (fun H locs hW hS => ?_)
        have hW : zW g A ([[(x, .inr (12, [.ref a0, .ref a1, .ref a2, .int (nI k), .ref a3, .ref a4, .ref a5, .int (nI ty), .int thr, .int (nI (at_ + 1)), .int (zb bF), .int (((10 * ((tx at_) - 48)) + (tx (at_ + 1))) - 48), .ref a6, .int (nI tl), .int (zb bC)]))], [(a5, .inl (g.2.1 0, 60, .inl tx))], [(a6, .inl (g.2.1 0, 93, .inl to))]] : List va_W) H := hW
        refine lv_aload_n hx hb dX9_areDays_102 rfl (lv_at hl 0 rfl) ?_
        refine lv_dup hx hb dX9_areDays_103 rfl ?_
        refine z_get X (hW.H.at 0 0 rfl rfl) zF_RX9_154_12 rfl dX9_areDays_104 ?_
        refine lv_iconst (v := 1) hx hb dX9_areDays_107 rfl ?_
        refine lv_iadd hx hb dX9_areDays_108 ?_
        refine z_stk (b := [.int (nI (at_ + 1 + 1)), .ref x]) (by rw [show ((nI (at_ + 1)) + 1) = nI (at_ + 1 + 1) from zx_add rfl rfl]) ?_
        refine z_put X hW hS 0 0 rfl rfl zP_RX9_154_12 rfl rfl (Nat.le_of_ble_eq_true rfl) dX9_areDays_109 (fun H locs hW hS => ?_)
        have hW : zW g A ([[(x, .inr (12, [.ref a0, .ref a1, .ref a2, .int (nI k), .ref a3, .ref a4, .ref a5, .int (nI ty), .int thr, .int (nI (at_ + 1 + 1)), .int (zb bF), .int (((10 * ((tx at_) - 48)) + (tx (at_ + 1))) - 48), .ref a6, .int (nI tl), .int (zb bC)]))], [(a5, .inl (g.2.1 0, 60, .inl tx))], [(a6, .inl (g.2.1 0, 93, .inl to))]] : List va_W) H := hW
        refine lv_aload_n hx hb dX9_areDays_112 rfl (lv_at hl 0 rfl) ?_
        refine z_get X (hW.H.at 0 0 rfl rfl) zF_RX9_29_12 rfl dX9_areDays_113 ?_
        refine lv_iconst (v := 3) hx hb dX9_areDays_116 rfl ?_
        refine lv_aload_n hx hb dX9_areDays_117 rfl (lv_at hl 0 rfl) ?_
        refine z_get X (hW.H.at 0 0 rfl rfl) zF_RX9_167_12 rfl dX9_areDays_118 ?_
        refine lv_imul hx hb dX9_areDays_121 ?_
        refine lv_iload_n hx hb dX9_areDays_122 rfl (lv_at hl 1 rfl) ?_
        refine lv_iadd hx hb dX9_areDays_123 ?_
        refine lv_aload_n hx hb dX9_areDays_124 rfl (lv_at hl 0 rfl) ?_
        refine z_get X (hW.H.at 0 0 rfl rfl) zF_RX9_170_12 rfl dX9_areDays_125 ?_
        refine z_iast X (j := (3 * tl) + q) hW hS 2 0 rfl rfl (zx_add (zx_mul rfl rfl) rfl) (by omega) (by decide) dX9_areDays_128 (fun H locs hW hS => ?_)
        have hW : zW g A ([[(x, .inr (12, [.ref a0, .ref a1, .ref a2, .int (nI k), .ref a3, .ref a4, .ref a5, .int (nI ty), .int thr, .int (nI (at_ + 1 + 1)), .int (zb bF), .int (((10 * ((tx at_) - 48)) + (tx (at_ + 1))) - 48), .ref a6, .int (nI tl), .int (zb bC)]))], [(a5, .inl (g.2.1 0, 60, .inl tx))], [(a6, .inl (g.2.1 0, 93, .inl (upd to ((3 * tl) + q) (((10 * ((tx at_) - 48)) + (tx (at_ + 1))) - 48))))]] : List va_W) H := hW
        refine lv_iconst (v := 1) hx hb dX9_areDays_129 rfl ?_
        refine zWR.zret X hAe hW hS hr rfl hlocks ?_ (Nat.le_of_ble_eq_true rfl) (Nat.le_of_ble_eq_true rfl) dX9_areDays_130
        have e : p_dy tx ty at_ = (true, at_ + 2, p_v2 tx at_, 0) := by simp [p_dy, p_v2, c8_0, c50_1, c75_2]
        rw [e]
        exact ⟨_, _, rfl, rfl, fun _ => upd_s, fun _ h => upd_n h⟩
  · skip
    refine lv_aload_n hx hb dX9_areDays_11 rfl (lv_at hl 0 rfl) ?_
    refine zc_wr (gc := [[(x, .inr (12, [.ref a0, .ref a1, .ref a2, .int (nI k), .ref a3, .ref a4, .ref a5, .int (nI ty), .int thr, .int (nI at_), .int (zb bF), .int val, .ref a6, .int (nI tl), .int (zb bC)]))]]) (gr := [[(a5, .inl (g.2.1 0, 60, .inl tx))], [(a6, .inl (g.2.1 0, 93, .inl to))]]) (zr_V (As := []) (rest := []) X (m_X9_stops l g x a0 a1 a2 a3 a4 a5 a6 k ty at_ tl thr val bF bC (by omega) (by omega) _) zL_RX9_163 (ci := 12) rfl (hW.H.at 0 0 rfl rfl) (zW.pre (gc := [[(x, .inr (12, [.ref a0, .ref a1, .ref a2, .int (nI k), .ref a3, .ref a4, .ref a5, .int (nI ty), .int thr, .int (nI at_), .int (zb bF), .int val, .ref a6, .int (nI tl), .int (zb bC)]))]]) (gr := [[(a5, .inl (g.2.1 0, 60, .inl tx))], [(a6, .inl (g.2.1 0, 93, .inl to))]]) hW hA0) hS hA0 hls rfl (Nat.le_of_ble_eq_true rfl) ⟨rfl, rfl, Nat.le_of_ble_eq_true rfl, Nat.le_of_ble_eq_true rfl, (Nat.le_of_ble_eq_true rfl), (Nat.le_of_ble_eq_true rfl)⟩ dX9_areDays_12) hW hS hA (fun v gc' H locs hpost hW hS => ?_)
    obtain ⟨rfl, rfl⟩ := hpost
    have hW : zW g A ([[(x, .inr (12, [.ref a0, .ref a1, .ref a2, .int (nI k), .ref a3, .ref a4, .ref a5, .int (nI ty), .int thr, .int (nI at_), .int (zb (decide (at_ < ty))), .int val, .ref a6, .int (nI tl), .int (zb bC)]))], [(a5, .inl (g.2.1 0, 60, .inl tx))], [(a6, .inl (g.2.1 0, 93, .inl to))]] : List va_W) H := hW
    refine W.eq (g2 := F0 zm 15 ls [.int 0]) rfl ?_
    refine zWR.zret X hAe hW hS hr rfl hlocks ?_ (Nat.le_of_ble_eq_true rfl) (Nat.le_of_ble_eq_true rfl) dX9_areDays_15
    have e : p_dy tx ty at_ = (false, at_, 0, 0) := by simp [p_dy, c8_0]
    rw [e]
    exact ⟨_, _, rfl, rfl, fun h => absurd (show false = true from h) (by decide), fun _ _ => rfl⟩

abbrev rm_X9_isToldOrder : Room := { frames := 3, cells := 0, slots := 0, locals := 66 }
set_option maxHeartbeats 4000000 in
set_option maxRecDepth 100000 in
theorem m_X9_isToldOrder (l : Launch) (g : zG) (x a0 a1 a2 a3 a4 a5 a6 : Nat) (k ty at_ tl : Nat) (thr val : Int32) (bF bC : Bool) (tx to : Nat → Int32) (htl : tl < 30) (hat : at_ < 900) (hty : ty ≤ 60)  (sz : Nat) : zWR l yX9_isToldOrder cX9_isToldOrder 1 (Option.some Jvm.ClassFile.FieldType.boolean) rm_X9_isToldOrder g [.ref x] ([[(x, .inr (12, [.ref a0, .ref a1, .ref a2, .int (nI k), .ref a3, .ref a4, .ref a5, .int (nI ty), .int thr, .int (nI at_), .int (zb bF), .int val, .ref a6, .int (nI tl), .int (zb bC)]))], [(a5, .inl (g.2.1 0, 60, .inl tx))], [(a6, .inl (g.2.1 0, 93, .inl to))]] : List va_W) 0 0 sz (fun zv gs' => ∃ (to' : Nat → Int32) (val' : Int32), zv = some (.int (zb (p_ord tx ty at_).1)) ∧ gs' = [[(x, .inr (12, [.ref a0, .ref a1, .ref a2, .int (nI k), .ref a3, .ref a4, .ref a5, .int (nI ty), .int thr, .int (nI ((p_ord tx ty at_).2.1)), .int (zb (if (p_ord tx ty at_).1 then bF else decide ((p_ord tx ty at_).2.1 < ty))), .int val', .ref a6, .int (nI tl), .int (zb bC)]))], [(a5, .inl (g.2.1 0, 60, .inl tx))], [(a6, .inl (g.2.1 0, 93, .inl to'))]] ∧ ((p_ord tx ty at_).1 = true → to' (3 * tl + 1) = (p_ord tx ty at_).2.2.1 ∧ (to' (3 * tl + 2) = (p_ord tx ty at_).2.2.2)) ∧ ∀ j, j ≠ 3 * tl + 1 → j ≠ 3 * tl + 2 → to' j = to j) := by
  refine zWR.start (by decide) (Nat.le_of_ble_eq_true rfl) ?_
  intro zp ze s zm zbl zmt zc ls A X hr hlocks hinn hl hAe hW hS hA hA0
  have hx := X.1
  have hb := X.2.1
  have hml := X.2.2.1
  have hown := X.2.2.2.1
  have hls := hl.1
  have hl : lv_has ls 1 [(0, .ref x)] := hl
  refine lv_aload_n hx hb dX9_isToldOrder_0 rfl (lv_at hl 0 rfl) ?_
  refine z_get X (hW.H.at 0 0 rfl rfl) zF_RX9_29_12 rfl dX9_isToldOrder_1 ?_
  refine lv_iconst (v := 3) hx hb dX9_isToldOrder_4 rfl ?_
  refine lv_aload_n hx hb dX9_isToldOrder_5 rfl (lv_at hl 0 rfl) ?_
  refine z_get X (hW.H.at 0 0 rfl rfl) zF_RX9_167_12 rfl dX9_isToldOrder_6 ?_
  refine lv_imul hx hb dX9_isToldOrder_9 ?_
  refine lv_iconst (v := 2) hx hb dX9_isToldOrder_10 rfl ?_
  refine lv_iadd hx hb dX9_isToldOrder_11 ?_
  refine lv_iconst (v := (-1)) hx hb dX9_isToldOrder_12 rfl ?_
  refine z_iast X (j := (3 * tl) + 2) hW hS 2 0 rfl rfl (zx_add (zx_mul rfl rfl) rfl) (by omega) (by decide) dX9_isToldOrder_13 (fun H locs hW hS => ?_)
  have hW : zW g A ([[(x, .inr (12, [.ref a0, .ref a1, .ref a2, .int (nI k), .ref a3, .ref a4, .ref a5, .int (nI ty), .int thr, .int (nI at_), .int (zb bF), .int val, .ref a6, .int (nI tl), .int (zb bC)]))], [(a5, .inl (g.2.1 0, 60, .inl tx))], [(a6, .inl (g.2.1 0, 93, .inl (upd to ((3 * tl) + 2) (-1))))]] : List va_W) H := hW
  cases hp1 : p_at tx ty at_ 48 51 with
  | false =>
    refine lv_aload_n hx hb dX9_isToldOrder_14 rfl (lv_at hl 0 rfl) ?_
    refine lv_iconst (v := 1) hx hb dX9_isToldOrder_15 rfl ?_
    refine lv_bipush (v := 51) hx hb dX9_isToldOrder_16 (by decide) ?_
    refine zc_wr (gc := [[(x, .inr (12, [.ref a0, .ref a1, .ref a2, .int (nI k), .ref a3, .ref a4, .ref a5, .int (nI ty), .int thr, .int (nI at_), .int (zb bF), .int val, .ref a6, .int (nI tl), .int (zb bC)]))], [(a5, .inl (g.2.1 0, 60, .inl tx))], [(a6, .inl (g.2.1 0, 93, .inl (upd to ((3 * tl) + 2) (-1))))]]) (gr := []) (zr_V (As := [.int 1, .int 51]) (rest := []) X (m_X9_isDigit_n l g x a0 a1 a2 a3 a4 a5 a6 k ty at_ tl thr val bF bC tx (upd to ((3 * tl) + 2) (-1)) 1 51 (by omega) (by omega) (by omega) (by omega) hp1 _) zL_RX9_173 (ci := 12) rfl (hW.H.at 0 0 rfl rfl) (zW.pre (gc := [[(x, .inr (12, [.ref a0, .ref a1, .ref a2, .int (nI k), .ref a3, .ref a4, .ref a5, .int (nI ty), .int thr, .int (nI at_), .int (zb bF), .int val, .ref a6, .int (nI tl), .int (zb bC)]))], [(a5, .inl (g.2.1 0, 60, .inl tx))], [(a6, .inl (g.2.1 0, 93, .inl (upd to ((3 * tl) + 2) (-1))))]]) (gr := []) hW hA0) hS hA0 hls rfl (Nat.le_of_ble_eq_true rfl) ⟨rfl, rfl, Nat.le_of_ble_eq_true rfl, Nat.le_of_ble_eq_true rfl, (Nat.le_of_ble_eq_true rfl), (Nat.le_of_ble_eq_true rfl)⟩ dX9_isToldOrder_18) hW hS hA (fun v gc' H locs hpost hW hS => ?_)
    obtain ⟨rfl, rfl⟩ := hpost
    have hW : zW g A ([[(x, .inr (12, [.ref a0, .ref a1, .ref a2, .int (nI k), .ref a3, .ref a4, .ref a5, .int (nI ty), .int thr, .int (nI at_), .int (zb (decide (at_ < ty))), .int val, .ref a6, .int (nI tl), .int (zb bC)]))], [(a5, .inl (g.2.1 0, 60, .inl tx))], [(a6, .inl (g.2.1 0, 93, .inl (upd to ((3 * tl) + 2) (-1))))]] : List va_W) H := hW
    refine W.eq (g2 := F0 zm 21 ls [.int 0]) rfl ?_
    refine lv_if_ne (tgt := 26) hx hb dX9_isToldOrder_21 (by decide) (fun c21_0 => ?_) (fun c21_0 => ?_)
    · exact absurd c21_0 (by decide)
    · skip
      refine lv_iconst (v := 0) hx hb dX9_isToldOrder_24 rfl ?_
      refine zWR.zret X hAe hW hS hr rfl hlocks ?_ (Nat.le_of_ble_eq_true rfl) (Nat.le_of_ble_eq_true rfl) dX9_isToldOrder_25
      have e : p_ord tx ty at_ = (false, at_, 0, 0) := by simp [p_ord, hp1, c21_0]
      rw [e]
      refine ⟨_, _, rfl, rfl, fun h => absurd (show false = true from h) (by decide), fun j h1 h2 => by simp (disch := omega) only [upd_n]⟩
  | true =>
    refine lv_aload_n hx hb dX9_isToldOrder_14 rfl (lv_at hl 0 rfl) ?_
    refine lv_iconst (v := 1) hx hb dX9_isToldOrder_15 rfl ?_
    refine lv_bipush (v := 51) hx hb dX9_isToldOrder_16 (by decide) ?_
    refine zc_wr (gc := [[(x, .inr (12, [.ref a0, .ref a1, .ref a2, .int (nI k), .ref a3, .ref a4, .ref a5, .int (nI ty), .int thr, .int (nI at_), .int (zb bF), .int val, .ref a6, .int (nI tl), .int (zb bC)]))], [(a5, .inl (g.2.1 0, 60, .inl tx))], [(a6, .inl (g.2.1 0, 93, .inl (upd to ((3 * tl) + 2) (-1))))]]) (gr := []) (zr_V (As := [.int 1, .int 51]) (rest := []) X (m_X9_isDigit_y l g x a0 a1 a2 a3 a4 a5 a6 k ty at_ tl thr val bF bC tx (upd to ((3 * tl) + 2) (-1)) 1 51 (by omega) (by omega) (by omega) (by omega) hp1 _) zL_RX9_173 (ci := 12) rfl (hW.H.at 0 0 rfl rfl) (zW.pre (gc := [[(x, .inr (12, [.ref a0, .ref a1, .ref a2, .int (nI k), .ref a3, .ref a4, .ref a5, .int (nI ty), .int thr, .int (nI at_), .int (zb bF), .int val, .ref a6, .int (nI tl), .int (zb bC)]))], [(a5, .inl (g.2.1 0, 60, .inl tx))], [(a6, .inl (g.2.1 0, 93, .inl (upd to ((3 * tl) + 2) (-1))))]]) (gr := []) hW hA0) hS hA0 hls rfl (Nat.le_of_ble_eq_true rfl) ⟨rfl, rfl, Nat.le_of_ble_eq_true rfl, Nat.le_of_ble_eq_true rfl, (Nat.le_of_ble_eq_true rfl), (Nat.le_of_ble_eq_true rfl)⟩ dX9_isToldOrder_18) hW hS hA (fun v gc' H locs hpost hW hS => ?_)
    obtain ⟨rfl, rfl⟩ := hpost
    have hW : zW g A ([[(x, .inr (12, [.ref a0, .ref a1, .ref a2, .int (nI k), .ref a3, .ref a4, .ref a5, .int (nI ty), .int thr, .int (nI (at_ + 1)), .int (zb bF), .int val, .ref a6, .int (nI tl), .int (zb bC)]))], [(a5, .inl (g.2.1 0, 60, .inl tx))], [(a6, .inl (g.2.1 0, 93, .inl (upd (upd to ((3 * tl) + 2) (-1)) (3 * tl + 1) (tx at_ - 48))))]] : List va_W) H := hW
    refine W.eq (g2 := F0 zm 21 ls [.int 1]) rfl ?_
    refine lv_if_ne (tgt := 26) hx hb dX9_isToldOrder_21 (by decide) (fun c21_1 => ?_) (fun c21_1 => ?_)
    · skip
      refine lv_aload_n hx hb dX9_isToldOrder_26 rfl (lv_at hl 0 rfl) ?_
      refine lv_bipush (v := 62) hx hb dX9_isToldOrder_27 (by decide) ?_
      refine lv_bipush (v := 62) hx hb dX9_isToldOrder_29 (by decide) ?_
      refine zc_ro (zr_V (As := [.int 62, .int 62]) (rest := []) X (m_X9_isAt l g x a0 a1 a2 a3 a4 a5 a6 k ty (at_ + 1) tl thr val bF bC tx 62 62 (by omega) (by omega)) zL_RX9_160 (ci := 12) rfl (hW.H.at 0 0 rfl rfl) (zH.cons (va_P.one (hW.H.at 0 0 rfl rfl)) (zH.cons (va_P.one (hW.H.at 1 0 rfl rfl)) zH.nil)) hS hA0 hls rfl (Nat.le_of_ble_eq_true rfl) ⟨rfl, rfl, Nat.le_of_ble_eq_true rfl, Nat.le_of_ble_eq_true rfl, (Nat.le_of_ble_eq_true rfl), (Nat.le_of_ble_eq_true rfl)⟩ dX9_isToldOrder_31) ?_
      refine zb_ifne (tgt := 39) hx hb dX9_isToldOrder_34 (by decide) (fun c34_2 => ?_) (fun c34_2 => ?_)
      · skip
        have hlt2 := p_at_lt c34_2
        refine lv_aload_n hx hb dX9_isToldOrder_39 rfl (lv_at hl 0 rfl) ?_
        refine lv_dup hx hb dX9_isToldOrder_40 rfl ?_
        refine z_get X (hW.H.at 0 0 rfl rfl) zF_RX9_154_12 rfl dX9_isToldOrder_41 ?_
        refine lv_iconst (v := 1) hx hb dX9_isToldOrder_44 rfl ?_
        refine lv_iadd hx hb dX9_isToldOrder_45 ?_
        refine z_stk (b := [.int (nI (at_ + 1 + 1)), .ref x]) (by rw [show ((nI (at_ + 1)) + 1) = nI (at_ + 1 + 1) from zx_add rfl rfl]) ?_
        refine z_put X hW hS 0 0 rfl rfl zP_RX9_154_12 rfl rfl (Nat.le_of_ble_eq_true rfl) dX9_isToldOrder_46 (fun H locs hW hS => ?_)
        have hW : zW g A ([[(x, .inr (12, [.ref a0, .ref a1, .ref a2, .int (nI k), .ref a3, .ref a4, .ref a5, .int (nI ty), .int thr, .int (nI (at_ + 1 + 1)), .int (zb bF), .int val, .ref a6, .int (nI tl), .int (zb bC)]))], [(a5, .inl (g.2.1 0, 60, .inl tx))], [(a6, .inl (g.2.1 0, 93, .inl (upd (upd to ((3 * tl) + 2) (-1)) (3 * tl + 1) (tx at_ - 48))))]] : List va_W) H := hW
        cases hp2 : p_at tx ty (at_ + 1 + 1) 48 52 with
        | false =>
          refine lv_aload_n hx hb dX9_isToldOrder_49 rfl (lv_at hl 0 rfl) ?_
          refine lv_iconst (v := 2) hx hb dX9_isToldOrder_50 rfl ?_
          refine lv_bipush (v := 52) hx hb dX9_isToldOrder_51 (by decide) ?_
          refine zc_wr (gc := [[(x, .inr (12, [.ref a0, .ref a1, .ref a2, .int (nI k), .ref a3, .ref a4, .ref a5, .int (nI ty), .int thr, .int (nI (at_ + 1 + 1)), .int (zb bF), .int val, .ref a6, .int (nI tl), .int (zb bC)]))], [(a5, .inl (g.2.1 0, 60, .inl tx))], [(a6, .inl (g.2.1 0, 93, .inl (upd (upd to ((3 * tl) + 2) (-1)) (3 * tl + 1) (tx at_ - 48))))]]) (gr := []) (zr_V (As := [.int 2, .int 52]) (rest := []) X (m_X9_isDigit_n l g x a0 a1 a2 a3 a4 a5 a6 k ty (at_ + 1 + 1) tl thr val bF bC tx (upd (upd to ((3 * tl) + 2) (-1)) (3 * tl + 1) (tx at_ - 48)) 2 52 (by omega) (by omega) (by omega) (by omega) hp2 _) zL_RX9_173 (ci := 12) rfl (hW.H.at 0 0 rfl rfl) (zW.pre (gc := [[(x, .inr (12, [.ref a0, .ref a1, .ref a2, .int (nI k), .ref a3, .ref a4, .ref a5, .int (nI ty), .int thr, .int (nI (at_ + 1 + 1)), .int (zb bF), .int val, .ref a6, .int (nI tl), .int (zb bC)]))], [(a5, .inl (g.2.1 0, 60, .inl tx))], [(a6, .inl (g.2.1 0, 93, .inl (upd (upd to ((3 * tl) + 2) (-1)) (3 * tl + 1) (tx at_ - 48))))]]) (gr := []) hW hA0) hS hA0 hls rfl (Nat.le_of_ble_eq_true rfl) ⟨rfl, rfl, Nat.le_of_ble_eq_true rfl, Nat.le_of_ble_eq_true rfl, (Nat.le_of_ble_eq_true rfl), (Nat.le_of_ble_eq_true rfl)⟩ dX9_isToldOrder_53) hW hS hA (fun v gc' H locs hpost hW hS => ?_)
          obtain ⟨rfl, rfl⟩ := hpost
          have hW : zW g A ([[(x, .inr (12, [.ref a0, .ref a1, .ref a2, .int (nI k), .ref a3, .ref a4, .ref a5, .int (nI ty), .int thr, .int (nI (at_ + 1 + 1)), .int (zb (decide ((at_ + 1 + 1) < ty))), .int val, .ref a6, .int (nI tl), .int (zb bC)]))], [(a5, .inl (g.2.1 0, 60, .inl tx))], [(a6, .inl (g.2.1 0, 93, .inl (upd (upd to ((3 * tl) + 2) (-1)) (3 * tl + 1) (tx at_ - 48))))]] : List va_W) H := hW
          refine W.eq (g2 := F0 zm 56 ls [.int 0]) rfl ?_
          refine zWR.zret X hAe hW hS hr rfl hlocks ?_ (Nat.le_of_ble_eq_true rfl) (Nat.le_of_ble_eq_true rfl) dX9_isToldOrder_56
          have e : p_ord tx ty at_ = (false, at_ + 2, 0, 0) := by simp [p_ord, hp1, c21_1, c34_2, hp2]
          rw [e]
          refine ⟨_, _, rfl, rfl, fun h => absurd (show false = true from h) (by decide), fun j h1 h2 => by simp (disch := omega) only [upd_n]⟩
        | true =>
          refine lv_aload_n hx hb dX9_isToldOrder_49 rfl (lv_at hl 0 rfl) ?_
          refine lv_iconst (v := 2) hx hb dX9_isToldOrder_50 rfl ?_
          refine lv_bipush (v := 52) hx hb dX9_isToldOrder_51 (by decide) ?_
          refine zc_wr (gc := [[(x, .inr (12, [.ref a0, .ref a1, .ref a2, .int (nI k), .ref a3, .ref a4, .ref a5, .int (nI ty), .int thr, .int (nI (at_ + 1 + 1)), .int (zb bF), .int val, .ref a6, .int (nI tl), .int (zb bC)]))], [(a5, .inl (g.2.1 0, 60, .inl tx))], [(a6, .inl (g.2.1 0, 93, .inl (upd (upd to ((3 * tl) + 2) (-1)) (3 * tl + 1) (tx at_ - 48))))]]) (gr := []) (zr_V (As := [.int 2, .int 52]) (rest := []) X (m_X9_isDigit_y l g x a0 a1 a2 a3 a4 a5 a6 k ty (at_ + 1 + 1) tl thr val bF bC tx (upd (upd to ((3 * tl) + 2) (-1)) (3 * tl + 1) (tx at_ - 48)) 2 52 (by omega) (by omega) (by omega) (by omega) hp2 _) zL_RX9_173 (ci := 12) rfl (hW.H.at 0 0 rfl rfl) (zW.pre (gc := [[(x, .inr (12, [.ref a0, .ref a1, .ref a2, .int (nI k), .ref a3, .ref a4, .ref a5, .int (nI ty), .int thr, .int (nI (at_ + 1 + 1)), .int (zb bF), .int val, .ref a6, .int (nI tl), .int (zb bC)]))], [(a5, .inl (g.2.1 0, 60, .inl tx))], [(a6, .inl (g.2.1 0, 93, .inl (upd (upd to ((3 * tl) + 2) (-1)) (3 * tl + 1) (tx at_ - 48))))]]) (gr := []) hW hA0) hS hA0 hls rfl (Nat.le_of_ble_eq_true rfl) ⟨rfl, rfl, Nat.le_of_ble_eq_true rfl, Nat.le_of_ble_eq_true rfl, (Nat.le_of_ble_eq_true rfl), (Nat.le_of_ble_eq_true rfl)⟩ dX9_isToldOrder_53) hW hS hA (fun v gc' H locs hpost hW hS => ?_)
          obtain ⟨rfl, rfl⟩ := hpost
          have hW : zW g A ([[(x, .inr (12, [.ref a0, .ref a1, .ref a2, .int (nI k), .ref a3, .ref a4, .ref a5, .int (nI ty), .int thr, .int (nI ((at_ + 1 + 1) + 1)), .int (zb bF), .int val, .ref a6, .int (nI tl), .int (zb bC)]))], [(a5, .inl (g.2.1 0, 60, .inl tx))], [(a6, .inl (g.2.1 0, 93, .inl (upd (upd (upd to ((3 * tl) + 2) (-1)) (3 * tl + 1) (tx at_ - 48)) (3 * tl + 2) (tx (at_ + 1 + 1) - 48))))]] : List va_W) H := hW
          refine W.eq (g2 := F0 zm 56 ls [.int 1]) rfl ?_
          refine zWR.zret X hAe hW hS hr rfl hlocks ?_ (Nat.le_of_ble_eq_true rfl) (Nat.le_of_ble_eq_true rfl) dX9_isToldOrder_56
          have e : p_ord tx ty at_ = (true, at_ + 3, tx at_ - 48, tx (at_ + 2) - 48) := by simp [p_ord, hp1, c21_1, c34_2, hp2]
          rw [e]
          refine ⟨_, _, rfl, rfl, fun _ => ⟨?_, ?_⟩, fun j h1 h2 => by simp (disch := omega) only [upd_n]⟩
          · simp (disch := omega) only [upd_n, upd_s]
          · simp (disch := omega) only [upd_n, upd_s]
      · skip
        refine lv_iconst (v := 1) hx hb dX9_isToldOrder_37 rfl ?_
        refine zWR.zret X hAe hW hS hr rfl hlocks ?_ (Nat.le_of_ble_eq_true rfl) (Nat.le_of_ble_eq_true rfl) dX9_isToldOrder_38
        have e : p_ord tx ty at_ = (true, at_ + 1, tx at_ - 48, -1) := by simp [p_ord, hp1, c21_1, c34_2]
        rw [e]
        refine ⟨_, _, rfl, rfl, fun _ => ⟨?_, ?_⟩, fun j h1 h2 => by simp (disch := omega) only [upd_n]⟩
        · simp (disch := omega) only [upd_n, upd_s]
        · simp (disch := omega) only [upd_n, upd_s]
    · exact absurd c21_1 (by decide)

abbrev rm_X9_isComplaint : Room := { frames := 3, cells := 0, slots := 0, locals := 66 }
set_option maxHeartbeats 4000000 in
set_option maxRecDepth 100000 in
theorem m_X9_isComplaint (l : Launch) (g : zG) (x a0 a1 a2 a3 a4 a5 a6 : Nat) (k ty at_ tl : Nat) (thr val : Int32) (bF bC : Bool) (tx to : Nat → Int32) (htl : tl < 30) (hat : at_ < 900) (hty : ty ≤ 60)  (sz : Nat) : zWR l yX9_isComplaint cX9_isComplaint 1 (Option.some Jvm.ClassFile.FieldType.boolean) rm_X9_isComplaint g [.ref x] ([[(x, .inr (12, [.ref a0, .ref a1, .ref a2, .int (nI k), .ref a3, .ref a4, .ref a5, .int (nI ty), .int thr, .int (nI at_), .int (zb bF), .int val, .ref a6, .int (nI tl), .int (zb bC)]))], [(a5, .inl (g.2.1 0, 60, .inl tx))], [(a6, .inl (g.2.1 0, 93, .inl to))]] : List va_W) 0 0 sz (fun zv gs' => ∃ (to' : Nat → Int32) (val' : Int32), zv = some (.int (zb (p_cmp tx ty at_).1)) ∧ gs' = [[(x, .inr (12, [.ref a0, .ref a1, .ref a2, .int (nI k), .ref a3, .ref a4, .ref a5, .int (nI ty), .int thr, .int (nI ((p_cmp tx ty at_).2.1)), .int (zb (if (p_cmp tx ty at_).1 then bF else decide ((p_cmp tx ty at_).2.1 < ty))), .int val', .ref a6, .int (nI tl), .int (zb bC)]))], [(a5, .inl (g.2.1 0, 60, .inl tx))], [(a6, .inl (g.2.1 0, 93, .inl to'))]] ∧ ((p_cmp tx ty at_).1 = true → to' (3 * tl + 1) = (p_cmp tx ty at_).2.2.1 ∧ (to' (3 * tl + 2) = (p_cmp tx ty at_).2.2.2)) ∧ ∀ j, j ≠ 3 * tl + 1 → j ≠ 3 * tl + 2 → to' j = to j) := by
  refine zWR.start (by decide) (Nat.le_of_ble_eq_true rfl) ?_
  intro zp ze s zm zbl zmt zc ls A X hr hlocks hinn hl hAe hW hS hA hA0
  have hx := X.1
  have hb := X.2.1
  have hml := X.2.2.1
  have hown := X.2.2.2.1
  have hls := hl.1
  have hl : lv_has ls 1 [(0, .ref x)] := hl
  cases hp1 : p_at tx ty at_ 48 52 with
  | false =>
    refine lv_aload_n hx hb dX9_isComplaint_0 rfl (lv_at hl 0 rfl) ?_
    refine lv_iconst (v := 1) hx hb dX9_isComplaint_1 rfl ?_
    refine lv_bipush (v := 52) hx hb dX9_isComplaint_2 (by decide) ?_
    refine zc_wr (gc := [[(x, .inr (12, [.ref a0, .ref a1, .ref a2, .int (nI k), .ref a3, .ref a4, .ref a5, .int (nI ty), .int thr, .int (nI at_), .int (zb bF), .int val, .ref a6, .int (nI tl), .int (zb bC)]))], [(a5, .inl (g.2.1 0, 60, .inl tx))], [(a6, .inl (g.2.1 0, 93, .inl to))]]) (gr := []) (zr_V (As := [.int 1, .int 52]) (rest := []) X (m_X9_isDigit_n l g x a0 a1 a2 a3 a4 a5 a6 k ty at_ tl thr val bF bC tx to 1 52 (by omega) (by omega) (by omega) (by omega) hp1 _) zL_RX9_173 (ci := 12) rfl (hW.H.at 0 0 rfl rfl) (zW.pre (gc := [[(x, .inr (12, [.ref a0, .ref a1, .ref a2, .int (nI k), .ref a3, .ref a4, .ref a5, .int (nI ty), .int thr, .int (nI at_), .int (zb bF), .int val, .ref a6, .int (nI tl), .int (zb bC)]))], [(a5, .inl (g.2.1 0, 60, .inl tx))], [(a6, .inl (g.2.1 0, 93, .inl to))]]) (gr := []) hW hA0) hS hA0 hls rfl (Nat.le_of_ble_eq_true rfl) ⟨rfl, rfl, Nat.le_of_ble_eq_true rfl, Nat.le_of_ble_eq_true rfl, (Nat.le_of_ble_eq_true rfl), (Nat.le_of_ble_eq_true rfl)⟩ dX9_isComplaint_4) hW hS hA (fun v gc' H locs hpost hW hS => ?_)
    obtain ⟨rfl, rfl⟩ := hpost
    have hW : zW g A ([[(x, .inr (12, [.ref a0, .ref a1, .ref a2, .int (nI k), .ref a3, .ref a4, .ref a5, .int (nI ty), .int thr, .int (nI at_), .int (zb (decide (at_ < ty))), .int val, .ref a6, .int (nI tl), .int (zb bC)]))], [(a5, .inl (g.2.1 0, 60, .inl tx))], [(a6, .inl (g.2.1 0, 93, .inl to))]] : List va_W) H := hW
    refine W.eq (g2 := F0 zm 7 ls [.int 0]) rfl ?_
    refine lv_if_ne (tgt := 12) hx hb dX9_isComplaint_7 (by decide) (fun c7_0 => ?_) (fun c7_0 => ?_)
    · exact absurd c7_0 (by decide)
    · skip
      refine lv_iconst (v := 0) hx hb dX9_isComplaint_10 rfl ?_
      refine zWR.zret X hAe hW hS hr rfl hlocks ?_ (Nat.le_of_ble_eq_true rfl) (Nat.le_of_ble_eq_true rfl) dX9_isComplaint_11
      have e : p_cmp tx ty at_ = (false, at_, 0, 0) := by simp [p_cmp, hp1, c7_0]
      rw [e]
      refine ⟨_, _, rfl, rfl, fun h => absurd (show false = true from h) (by decide), fun j h1 h2 => by simp (disch := omega) only [upd_n]⟩
  | true =>
    refine lv_aload_n hx hb dX9_isComplaint_0 rfl (lv_at hl 0 rfl) ?_
    refine lv_iconst (v := 1) hx hb dX9_isComplaint_1 rfl ?_
    refine lv_bipush (v := 52) hx hb dX9_isComplaint_2 (by decide) ?_
    refine zc_wr (gc := [[(x, .inr (12, [.ref a0, .ref a1, .ref a2, .int (nI k), .ref a3, .ref a4, .ref a5, .int (nI ty), .int thr, .int (nI at_), .int (zb bF), .int val, .ref a6, .int (nI tl), .int (zb bC)]))], [(a5, .inl (g.2.1 0, 60, .inl tx))], [(a6, .inl (g.2.1 0, 93, .inl to))]]) (gr := []) (zr_V (As := [.int 1, .int 52]) (rest := []) X (m_X9_isDigit_y l g x a0 a1 a2 a3 a4 a5 a6 k ty at_ tl thr val bF bC tx to 1 52 (by omega) (by omega) (by omega) (by omega) hp1 _) zL_RX9_173 (ci := 12) rfl (hW.H.at 0 0 rfl rfl) (zW.pre (gc := [[(x, .inr (12, [.ref a0, .ref a1, .ref a2, .int (nI k), .ref a3, .ref a4, .ref a5, .int (nI ty), .int thr, .int (nI at_), .int (zb bF), .int val, .ref a6, .int (nI tl), .int (zb bC)]))], [(a5, .inl (g.2.1 0, 60, .inl tx))], [(a6, .inl (g.2.1 0, 93, .inl to))]]) (gr := []) hW hA0) hS hA0 hls rfl (Nat.le_of_ble_eq_true rfl) ⟨rfl, rfl, Nat.le_of_ble_eq_true rfl, Nat.le_of_ble_eq_true rfl, (Nat.le_of_ble_eq_true rfl), (Nat.le_of_ble_eq_true rfl)⟩ dX9_isComplaint_4) hW hS hA (fun v gc' H locs hpost hW hS => ?_)
    obtain ⟨rfl, rfl⟩ := hpost
    have hW : zW g A ([[(x, .inr (12, [.ref a0, .ref a1, .ref a2, .int (nI k), .ref a3, .ref a4, .ref a5, .int (nI ty), .int thr, .int (nI (at_ + 1)), .int (zb bF), .int val, .ref a6, .int (nI tl), .int (zb bC)]))], [(a5, .inl (g.2.1 0, 60, .inl tx))], [(a6, .inl (g.2.1 0, 93, .inl (upd to (3 * tl + 1) (tx at_ - 48))))]] : List va_W) H := hW
    refine W.eq (g2 := F0 zm 7 ls [.int 1]) rfl ?_
    refine lv_if_ne (tgt := 12) hx hb dX9_isComplaint_7 (by decide) (fun c7_1 => ?_) (fun c7_1 => ?_)
    · skip
      refine lv_aload_n hx hb dX9_isComplaint_12 rfl (lv_at hl 0 rfl) ?_
      refine lv_bipush (v := 58) hx hb dX9_isComplaint_13 (by decide) ?_
      refine lv_bipush (v := 58) hx hb dX9_isComplaint_15 (by decide) ?_
      refine zc_ro (zr_V (As := [.int 58, .int 58]) (rest := []) X (m_X9_isAt l g x a0 a1 a2 a3 a4 a5 a6 k ty (at_ + 1) tl thr val bF bC tx 58 58 (by omega) (by omega)) zL_RX9_160 (ci := 12) rfl (hW.H.at 0 0 rfl rfl) (zH.cons (va_P.one (hW.H.at 0 0 rfl rfl)) (zH.cons (va_P.one (hW.H.at 1 0 rfl rfl)) zH.nil)) hS hA0 hls rfl (Nat.le_of_ble_eq_true rfl) ⟨rfl, rfl, Nat.le_of_ble_eq_true rfl, Nat.le_of_ble_eq_true rfl, (Nat.le_of_ble_eq_true rfl), (Nat.le_of_ble_eq_true rfl)⟩ dX9_isComplaint_17) ?_
      refine zb_ifne (tgt := 28) hx hb dX9_isComplaint_20 (by decide) (fun c20_2 => ?_) (fun c20_2 => ?_)
      · skip
        have hlt2 := p_at_lt c20_2
        refine lv_aload_n hx hb dX9_isComplaint_28 rfl (lv_at hl 0 rfl) ?_
        refine lv_dup hx hb dX9_isComplaint_29 rfl ?_
        refine z_get X (hW.H.at 0 0 rfl rfl) zF_RX9_154_12 rfl dX9_isComplaint_30 ?_
        refine lv_iconst (v := 1) hx hb dX9_isComplaint_33 rfl ?_
        refine lv_iadd hx hb dX9_isComplaint_34 ?_
        refine z_stk (b := [.int (nI (at_ + 1 + 1)), .ref x]) (by rw [show ((nI (at_ + 1)) + 1) = nI (at_ + 1 + 1) from zx_add rfl rfl]) ?_
        refine z_put X hW hS 0 0 rfl rfl zP_RX9_154_12 rfl rfl (Nat.le_of_ble_eq_true rfl) dX9_isComplaint_35 (fun H locs hW hS => ?_)
        have hW : zW g A ([[(x, .inr (12, [.ref a0, .ref a1, .ref a2, .int (nI k), .ref a3, .ref a4, .ref a5, .int (nI ty), .int thr, .int (nI (at_ + 1 + 1)), .int (zb bF), .int val, .ref a6, .int (nI tl), .int (zb bC)]))], [(a5, .inl (g.2.1 0, 60, .inl tx))], [(a6, .inl (g.2.1 0, 93, .inl (upd to (3 * tl + 1) (tx at_ - 48))))]] : List va_W) H := hW
        refine lv_aload_n hx hb dX9_isComplaint_38 rfl (lv_at hl 0 rfl) ?_
        refine lv_iconst (v := 2) hx hb dX9_isComplaint_39 rfl ?_
        refine zc_wr (gc := [[(x, .inr (12, [.ref a0, .ref a1, .ref a2, .int (nI k), .ref a3, .ref a4, .ref a5, .int (nI ty), .int thr, .int (nI (at_ + 1 + 1)), .int (zb bF), .int val, .ref a6, .int (nI tl), .int (zb bC)]))], [(a5, .inl (g.2.1 0, 60, .inl tx))], [(a6, .inl (g.2.1 0, 93, .inl (upd to (3 * tl + 1) (tx at_ - 48))))]]) (gr := []) (zr_V (As := [.int 2]) (rest := []) X (m_X9_areDays l g x a0 a1 a2 a3 a4 a5 a6 k ty (at_ + 1 + 1) tl thr val bF bC tx (upd to (3 * tl + 1) (tx at_ - 48)) 2 (by omega) (by omega) (by omega) (by omega) _) zL_RX9_176 (ci := 12) rfl (hW.H.at 0 0 rfl rfl) (zW.pre (gc := [[(x, .inr (12, [.ref a0, .ref a1, .ref a2, .int (nI k), .ref a3, .ref a4, .ref a5, .int (nI ty), .int thr, .int (nI (at_ + 1 + 1)), .int (zb bF), .int val, .ref a6, .int (nI tl), .int (zb bC)]))], [(a5, .inl (g.2.1 0, 60, .inl tx))], [(a6, .inl (g.2.1 0, 93, .inl (upd to (3 * tl + 1) (tx at_ - 48))))]]) (gr := []) hW hA0) hS hA0 hls rfl (Nat.le_of_ble_eq_true rfl) ⟨rfl, rfl, Nat.le_of_ble_eq_true rfl, Nat.le_of_ble_eq_true rfl, (Nat.le_of_ble_eq_true rfl), (Nat.le_of_ble_eq_true rfl)⟩ dX9_isComplaint_40) hW hS hA (fun v gc' H locs hpost hW hS => ?_)
        obtain ⟨to4, val5, rfl, rfl, hto4, oto4⟩ := hpost
        have hW : zW g A ([[(x, .inr (12, [.ref a0, .ref a1, .ref a2, .int (nI k), .ref a3, .ref a4, .ref a5, .int (nI ty), .int thr, .int (nI ((p_dy tx ty (at_ + 1 + 1)).2.1)), .int (zb (if (p_dy tx ty (at_ + 1 + 1)).1 then bF else decide ((p_dy tx ty (at_ + 1 + 1)).2.1 < ty))), .int val5, .ref a6, .int (nI tl), .int (zb bC)]))], [(a5, .inl (g.2.1 0, 60, .inl tx))], [(a6, .inl (g.2.1 0, 93, .inl to4))]] : List va_W) H := hW
        refine W.eq (g2 := F0 zm 43 ls [.int (zb ((p_dy tx ty (at_ + 1 + 1)).1))]) rfl ?_
        refine zWR.zret X hAe hW hS hr (zb_nar _) hlocks ?_ (Nat.le_of_ble_eq_true rfl) (Nat.le_of_ble_eq_true rfl) dX9_isComplaint_43
        have e : p_cmp tx ty at_ = ((p_dy tx ty (at_ + 2)).1, (p_dy tx ty (at_ + 2)).2.1, tx at_ - 48, (p_dy tx ty (at_ + 2)).2.2.1) := by simp [p_cmp, hp1, c7_1, c20_2]
        rw [e]
        refine ⟨_, _, rfl, rfl, fun h => ⟨?_, hto4 h⟩, fun j h1 h2 => ?_⟩
        · show to4 (3 * tl + 1) = _
          rw [oto4 _ (by omega), upd_s]
        · rw [oto4 _ (by omega), upd_n (by omega)]
      · skip
        refine lv_aload_n hx hb dX9_isComplaint_23 rfl (lv_at hl 0 rfl) ?_
        refine zc_wr (gc := [[(x, .inr (12, [.ref a0, .ref a1, .ref a2, .int (nI k), .ref a3, .ref a4, .ref a5, .int (nI ty), .int thr, .int (nI (at_ + 1)), .int (zb bF), .int val, .ref a6, .int (nI tl), .int (zb bC)]))]]) (gr := [[(a5, .inl (g.2.1 0, 60, .inl tx))], [(a6, .inl (g.2.1 0, 93, .inl (upd to (3 * tl + 1) (tx at_ - 48))))]]) (zr_V (As := []) (rest := []) X (m_X9_stops l g x a0 a1 a2 a3 a4 a5 a6 k ty (at_ + 1) tl thr val bF bC (by omega) (by omega) _) zL_RX9_163 (ci := 12) rfl (hW.H.at 0 0 rfl rfl) (zW.pre (gc := [[(x, .inr (12, [.ref a0, .ref a1, .ref a2, .int (nI k), .ref a3, .ref a4, .ref a5, .int (nI ty), .int thr, .int (nI (at_ + 1)), .int (zb bF), .int val, .ref a6, .int (nI tl), .int (zb bC)]))]]) (gr := [[(a5, .inl (g.2.1 0, 60, .inl tx))], [(a6, .inl (g.2.1 0, 93, .inl (upd to (3 * tl + 1) (tx at_ - 48))))]]) hW hA0) hS hA0 hls rfl (Nat.le_of_ble_eq_true rfl) ⟨rfl, rfl, Nat.le_of_ble_eq_true rfl, Nat.le_of_ble_eq_true rfl, (Nat.le_of_ble_eq_true rfl), (Nat.le_of_ble_eq_true rfl)⟩ dX9_isComplaint_24) hW hS hA (fun v gc' H locs hpost hW hS => ?_)
        obtain ⟨rfl, rfl⟩ := hpost
        have hW : zW g A ([[(x, .inr (12, [.ref a0, .ref a1, .ref a2, .int (nI k), .ref a3, .ref a4, .ref a5, .int (nI ty), .int thr, .int (nI (at_ + 1)), .int (zb (decide ((at_ + 1) < ty))), .int val, .ref a6, .int (nI tl), .int (zb bC)]))], [(a5, .inl (g.2.1 0, 60, .inl tx))], [(a6, .inl (g.2.1 0, 93, .inl (upd to (3 * tl + 1) (tx at_ - 48))))]] : List va_W) H := hW
        refine W.eq (g2 := F0 zm 27 ls [.int 0]) rfl ?_
        refine zWR.zret X hAe hW hS hr rfl hlocks ?_ (Nat.le_of_ble_eq_true rfl) (Nat.le_of_ble_eq_true rfl) dX9_isComplaint_27
        have e : p_cmp tx ty at_ = (false, at_ + 1, 0, 0) := by simp [p_cmp, hp1, c7_1, c20_2]
        rw [e]
        refine ⟨_, _, rfl, rfl, fun h => absurd (show false = true from h) (by decide), fun j h1 h2 => by simp (disch := omega) only [upd_n]⟩
    · exact absurd c7_1 (by decide)

abbrev rm_X9_isPart : Room := { frames := 4, cells := 0, slots := 0, locals := 86 }
set_option maxHeartbeats 4000000 in
set_option maxRecDepth 100000 in
theorem m_X9_isPart (l : Launch) (g : zG) (x a0 a1 a2 a3 a4 a5 a6 : Nat) (k ty at_ tl : Nat) (thr val : Int32) (bF bC : Bool) (tx to : Nat → Int32) (htl : tl < 30) (hat : at_ < 800) (hty : ty ≤ 60)  (sz : Nat) : zWR l yX9_isPart cX9_isPart 2 (Option.some Jvm.ClassFile.FieldType.boolean) rm_X9_isPart g [.ref x] ([[(x, .inr (12, [.ref a0, .ref a1, .ref a2, .int (nI k), .ref a3, .ref a4, .ref a5, .int (nI ty), .int thr, .int (nI at_), .int (zb bF), .int val, .ref a6, .int (nI tl), .int (zb bC)]))], [(a5, .inl (g.2.1 0, 60, .inl tx))], [(a6, .inl (g.2.1 0, 93, .inl to))]] : List va_W) 0 0 sz (fun zv gs' => ∃ (to' : Nat → Int32) (val' : Int32), zv = some (.int (zb (p_ok tx ty at_))) ∧ gs' = [[(x, .inr (12, [.ref a0, .ref a1, .ref a2, .int (nI k), .ref a3, .ref a4, .ref a5, .int (nI ty), .int thr, .int (nI (p_j tx ty at_)), .int (zb (if p_ok tx ty at_ then bF else decide (p_j tx ty at_ < ty))), .int val', .ref a6, .int (nI tl), .int (zb bC)]))], [(a5, .inl (g.2.1 0, 60, .inl tx))], [(a6, .inl (g.2.1 0, 93, .inl to'))]] ∧ (p_ok tx ty at_ = true → to' (3 * tl) = p_sort tx ty at_ ∧ to' (3 * tl + 1) = p_a tx ty at_ ∧ (p_sort tx ty at_ = 98 ∨ p_sort tx ty at_ = 120 → to' (3 * tl + 2) = p_b tx ty at_)) ∧ ∀ j, j < 3 * tl → to' j = to j) := by
  refine zWR.start (by decide) (Nat.le_of_ble_eq_true rfl) ?_
  intro zp ze s zm zbl zmt zc ls A X hr hlocks hinn hl hAe hW hS hA hA0
  have hx := X.1
  have hb := X.2.1
  have hml := X.2.2.1
  have hown := X.2.2.2.1
  have hls := hl.1
  have hl : lv_has ls 2 [(0, .ref x)] := hl
  have hj24 : ∀  (so : Int32) (hso : so = p_sort tx ty at_) (H : Heap) (locs : List Loc), zW g A ([[(x, .inr (12, [.ref a0, .ref a1, .ref a2, .int (nI k), .ref a3, .ref a4, .ref a5, .int (nI ty), .int thr, .int (nI at_), .int (zb bF), .int val, .ref a6, .int (nI tl), .int (zb bC)]))], [(a5, .inl (g.2.1 0, 60, .inl tx))], [(a6, .inl (g.2.1 0, 93, .inl to))]] : List va_W) H → va_S A s.heap H locs → ∀ (ls : Array Slot), lv_has ls 2 [(0, .ref x)] → W zp l ze rm_X9_isPart s zm ([.ref x] : List Value).toArray zbl zmt zc H locs 0 0 (MQ zbl (zQW g ([[(x, .inr (12, [.ref a0, .ref a1, .ref a2, .int (nI k), .ref a3, .ref a4, .ref a5, .int (nI ty), .int thr, .int (nI at_), .int (zb bF), .int val, .ref a6, .int (nI tl), .int (zb bC)]))], [(a5, .inl (g.2.1 0, 60, .inl tx))], [(a6, .inl (g.2.1 0, 93, .inl to))]] : List va_W) (fun zv gs' => ∃ (to' : Nat → Int32) (val' : Int32), zv = some (.int (zb (p_ok tx ty at_))) ∧ gs' = [[(x, .inr (12, [.ref a0, .ref a1, .ref a2, .int (nI k), .ref a3, .ref a4, .ref a5, .int (nI ty), .int thr, .int (nI (p_j tx ty at_)), .int (zb (if p_ok tx ty at_ then bF else decide (p_j tx ty at_ < ty))), .int val', .ref a6, .int (nI tl), .int (zb bC)]))], [(a5, .inl (g.2.1 0, 60, .inl tx))], [(a6, .inl (g.2.1 0, 93, .inl to'))]] ∧ (p_ok tx ty at_ = true → to' (3 * tl) = p_sort tx ty at_ ∧ to' (3 * tl + 1) = p_a tx ty at_ ∧ (p_sort tx ty at_ = 98 ∨ p_sort tx ty at_ = 120 → to' (3 * tl + 2) = p_b tx ty at_)) ∧ ∀ j, j < 3 * tl → to' j = to j)) ([.ref x] : List Value).toArray s 0 0 A) (F0 zm 24 ls [.int so]) := by
    intro so hso H locs hW hS ls hl
    have hls := hl.1
    refine lv_istore_n (lv' := [(1, .int so), (0, .ref x)]) hx hb dX9_isPart_24 rfl hl (by decide) rfl (fun ls hl => ?_)
    have hls := hl.1
    refine lv_aload_n hx hb dX9_isPart_25 rfl (lv_at hl 1 rfl) ?_
    refine z_get X (hW.H.at 0 0 rfl rfl) zF_RX9_29_12 rfl dX9_isPart_26 ?_
    refine lv_iconst (v := 3) hx hb dX9_isPart_29 rfl ?_
    refine lv_aload_n hx hb dX9_isPart_30 rfl (lv_at hl 1 rfl) ?_
    refine z_get X (hW.H.at 0 0 rfl rfl) zF_RX9_167_12 rfl dX9_isPart_31 ?_
    refine lv_imul hx hb dX9_isPart_34 ?_
    refine lv_iload_n hx hb dX9_isPart_35 rfl (lv_at hl 0 rfl) ?_
    refine z_iast X (j := 3 * tl) hW hS 2 0 rfl rfl (zx_mul rfl rfl) (by omega) (by decide) dX9_isPart_36 (fun H locs hW hS => ?_)
    have hW : zW g A ([[(x, .inr (12, [.ref a0, .ref a1, .ref a2, .int (nI k), .ref a3, .ref a4, .ref a5, .int (nI ty), .int thr, .int (nI at_), .int (zb bF), .int val, .ref a6, .int (nI tl), .int (zb bC)]))], [(a5, .inl (g.2.1 0, 60, .inl tx))], [(a6, .inl (g.2.1 0, 93, .inl (upd to (3 * tl) so)))]] : List va_W) H := hW
    refine lv_iload_n hx hb dX9_isPart_37 rfl (lv_at hl 0 rfl) ?_
    by_cases sw38_98 : so = 98
    · refine z_stk (b := [.int 98]) (by rw [sw38_98]) ?_
      refine lv_lookup (off := 42) (tgt := 80) hx hb dX9_isPart_38 (by decide) (by decide) (by decide) ?_
      refine lv_aload_n hx hb dX9_isPart_80 rfl (lv_at hl 1 rfl) ?_
      refine lv_dup hx hb dX9_isPart_81 rfl ?_
      refine z_get X (hW.H.at 0 0 rfl rfl) zF_RX9_154_12 rfl dX9_isPart_82 ?_
      refine lv_iconst (v := 1) hx hb dX9_isPart_85 rfl ?_
      refine lv_iadd hx hb dX9_isPart_86 ?_
      refine z_stk (b := [.int (nI (at_ + 1)), .ref x]) (by rw [show ((nI at_) + 1) = nI (at_ + 1) from zx_add rfl rfl]) ?_
      refine z_put X hW hS 0 0 rfl rfl zP_RX9_154_12 rfl rfl (Nat.le_of_ble_eq_true rfl) dX9_isPart_87 (fun H locs hW hS => ?_)
      have hW : zW g A ([[(x, .inr (12, [.ref a0, .ref a1, .ref a2, .int (nI k), .ref a3, .ref a4, .ref a5, .int (nI ty), .int thr, .int (nI (at_ + 1)), .int (zb bF), .int val, .ref a6, .int (nI tl), .int (zb bC)]))], [(a5, .inl (g.2.1 0, 60, .inl tx))], [(a6, .inl (g.2.1 0, 93, .inl (upd to (3 * tl) so)))]] : List va_W) H := hW
      refine lv_aload_n hx hb dX9_isPart_90 rfl (lv_at hl 1 rfl) ?_
      refine zc_wr (gc := [[(x, .inr (12, [.ref a0, .ref a1, .ref a2, .int (nI k), .ref a3, .ref a4, .ref a5, .int (nI ty), .int thr, .int (nI (at_ + 1)), .int (zb bF), .int val, .ref a6, .int (nI tl), .int (zb bC)]))], [(a5, .inl (g.2.1 0, 60, .inl tx))], [(a6, .inl (g.2.1 0, 93, .inl (upd to (3 * tl) so)))]]) (gr := []) (zr_V (As := []) (rest := []) X (m_X9_isToldOrder l g x a0 a1 a2 a3 a4 a5 a6 k ty (at_ + 1) tl thr val bF bC tx (upd to (3 * tl) so) (by omega) (by omega) (by omega) _) zL_RX9_179 (ci := 12) rfl (hW.H.at 0 0 rfl rfl) (zW.pre (gc := [[(x, .inr (12, [.ref a0, .ref a1, .ref a2, .int (nI k), .ref a3, .ref a4, .ref a5, .int (nI ty), .int thr, .int (nI (at_ + 1)), .int (zb bF), .int val, .ref a6, .int (nI tl), .int (zb bC)]))], [(a5, .inl (g.2.1 0, 60, .inl tx))], [(a6, .inl (g.2.1 0, 93, .inl (upd to (3 * tl) so)))]]) (gr := []) hW hA0) hS hA0 hls rfl (Nat.le_of_ble_eq_true rfl) ⟨rfl, rfl, Nat.le_of_ble_eq_true rfl, Nat.le_of_ble_eq_true rfl, (Nat.le_of_ble_eq_true rfl), (Nat.le_of_ble_eq_true rfl)⟩ dX9_isPart_91) hW hS hA (fun v gc' H locs hpost hW hS => ?_)
      obtain ⟨to1, val2, rfl, rfl, hto1, oto1⟩ := hpost
      have hW : zW g A ([[(x, .inr (12, [.ref a0, .ref a1, .ref a2, .int (nI k), .ref a3, .ref a4, .ref a5, .int (nI ty), .int thr, .int (nI ((p_ord tx ty (at_ + 1)).2.1)), .int (zb (if (p_ord tx ty (at_ + 1)).1 then bF else decide ((p_ord tx ty (at_ + 1)).2.1 < ty))), .int val2, .ref a6, .int (nI tl), .int (zb bC)]))], [(a5, .inl (g.2.1 0, 60, .inl tx))], [(a6, .inl (g.2.1 0, 93, .inl to1))]] : List va_W) H := hW
      refine W.eq (g2 := F0 zm 94 ls [.int (zb ((p_ord tx ty (at_ + 1)).1))]) rfl ?_
      refine zWR.zret X hAe hW hS hr (zb_nar _) hlocks ?_ (Nat.le_of_ble_eq_true rfl) (Nat.le_of_ble_eq_true rfl) dX9_isPart_94
      unfold p_ok p_j p_a p_b
      have e : p_part tx ty at_ = p_ord tx ty (at_ + 1) := by unfold p_part; rw [← hso, if_pos sw38_98]
      rw [e]
      refine ⟨_, _, rfl, rfl, fun h => ⟨?_, (hto1 h).1, fun _ => (hto1 h).2⟩, fun j h => ?_⟩
      · rw [oto1 _ (by omega) (by omega), upd_s, hso]
      · rw [oto1 _ (by omega) (by omega), upd_n (by omega)]
    by_cases sw38_109 : so = 109
    · refine z_stk (b := [.int 109]) (by rw [sw38_109]) ?_
      refine lv_lookup (off := 57) (tgt := 95) hx hb dX9_isPart_38 (by decide) (by decide) (by decide) ?_
      refine lv_aload_n hx hb dX9_isPart_95 rfl (lv_at hl 1 rfl) ?_
      refine lv_dup hx hb dX9_isPart_96 rfl ?_
      refine z_get X (hW.H.at 0 0 rfl rfl) zF_RX9_154_12 rfl dX9_isPart_97 ?_
      refine lv_iconst (v := 1) hx hb dX9_isPart_100 rfl ?_
      refine lv_iadd hx hb dX9_isPart_101 ?_
      refine z_stk (b := [.int (nI (at_ + 1)), .ref x]) (by rw [show ((nI at_) + 1) = nI (at_ + 1) from zx_add rfl rfl]) ?_
      refine z_put X hW hS 0 0 rfl rfl zP_RX9_154_12 rfl rfl (Nat.le_of_ble_eq_true rfl) dX9_isPart_102 (fun H locs hW hS => ?_)
      have hW : zW g A ([[(x, .inr (12, [.ref a0, .ref a1, .ref a2, .int (nI k), .ref a3, .ref a4, .ref a5, .int (nI ty), .int thr, .int (nI (at_ + 1)), .int (zb bF), .int val, .ref a6, .int (nI tl), .int (zb bC)]))], [(a5, .inl (g.2.1 0, 60, .inl tx))], [(a6, .inl (g.2.1 0, 93, .inl (upd to (3 * tl) so)))]] : List va_W) H := hW
      cases hp1 : p_at tx ty (at_ + 1) 48 53 with
      | false =>
        refine lv_aload_n hx hb dX9_isPart_105 rfl (lv_at hl 1 rfl) ?_
        refine lv_iconst (v := 1) hx hb dX9_isPart_106 rfl ?_
        refine lv_bipush (v := 53) hx hb dX9_isPart_107 (by decide) ?_
        refine zc_wr (gc := [[(x, .inr (12, [.ref a0, .ref a1, .ref a2, .int (nI k), .ref a3, .ref a4, .ref a5, .int (nI ty), .int thr, .int (nI (at_ + 1)), .int (zb bF), .int val, .ref a6, .int (nI tl), .int (zb bC)]))], [(a5, .inl (g.2.1 0, 60, .inl tx))], [(a6, .inl (g.2.1 0, 93, .inl (upd to (3 * tl) so)))]]) (gr := []) (zr_V (As := [.int 1, .int 53]) (rest := []) X (m_X9_isDigit_n l g x a0 a1 a2 a3 a4 a5 a6 k ty (at_ + 1) tl thr val bF bC tx (upd to (3 * tl) so) 1 53 (by omega) (by omega) (by omega) (by omega) hp1 _) zL_RX9_173 (ci := 12) rfl (hW.H.at 0 0 rfl rfl) (zW.pre (gc := [[(x, .inr (12, [.ref a0, .ref a1, .ref a2, .int (nI k), .ref a3, .ref a4, .ref a5, .int (nI ty), .int thr, .int (nI (at_ + 1)), .int (zb bF), .int val, .ref a6, .int (nI tl), .int (zb bC)]))], [(a5, .inl (g.2.1 0, 60, .inl tx))], [(a6, .inl (g.2.1 0, 93, .inl (upd to (3 * tl) so)))]]) (gr := []) hW hA0) hS hA0 hls rfl (Nat.le_of_ble_eq_true rfl) ⟨rfl, rfl, Nat.le_of_ble_eq_true rfl, Nat.le_of_ble_eq_true rfl, (Nat.le_of_ble_eq_true rfl), (Nat.le_of_ble_eq_true rfl)⟩ dX9_isPart_109) hW hS hA (fun v gc' H locs hpost hW hS => ?_)
        obtain ⟨rfl, rfl⟩ := hpost
        have hW : zW g A ([[(x, .inr (12, [.ref a0, .ref a1, .ref a2, .int (nI k), .ref a3, .ref a4, .ref a5, .int (nI ty), .int thr, .int (nI (at_ + 1)), .int (zb (decide ((at_ + 1) < ty))), .int val, .ref a6, .int (nI tl), .int (zb bC)]))], [(a5, .inl (g.2.1 0, 60, .inl tx))], [(a6, .inl (g.2.1 0, 93, .inl (upd to (3 * tl) so)))]] : List va_W) H := hW
        refine W.eq (g2 := F0 zm 112 ls [.int 0]) rfl ?_
        refine zWR.zret X hAe hW hS hr rfl hlocks ?_ (Nat.le_of_ble_eq_true rfl) (Nat.le_of_ble_eq_true rfl) dX9_isPart_112
        unfold p_ok p_j p_a p_b
        have e : p_part tx ty at_ = p_dg tx ty (at_ + 1) 53 := by unfold p_part; rw [← hso, if_neg sw38_98, if_pos sw38_109]
        rw [e]
        have e2 : p_dg tx ty (at_ + 1) 53 = (false, at_ + 1, 0, 0) := by unfold p_dg; rw [hp1]; rfl
        rw [e2]
        exact ⟨_, _, rfl, rfl, fun h => absurd (show false = true from h) (by decide), fun j h => upd_n (by omega)⟩
      | true =>
        refine lv_aload_n hx hb dX9_isPart_105 rfl (lv_at hl 1 rfl) ?_
        refine lv_iconst (v := 1) hx hb dX9_isPart_106 rfl ?_
        refine lv_bipush (v := 53) hx hb dX9_isPart_107 (by decide) ?_
        refine zc_wr (gc := [[(x, .inr (12, [.ref a0, .ref a1, .ref a2, .int (nI k), .ref a3, .ref a4, .ref a5, .int (nI ty), .int thr, .int (nI (at_ + 1)), .int (zb bF), .int val, .ref a6, .int (nI tl), .int (zb bC)]))], [(a5, .inl (g.2.1 0, 60, .inl tx))], [(a6, .inl (g.2.1 0, 93, .inl (upd to (3 * tl) so)))]]) (gr := []) (zr_V (As := [.int 1, .int 53]) (rest := []) X (m_X9_isDigit_y l g x a0 a1 a2 a3 a4 a5 a6 k ty (at_ + 1) tl thr val bF bC tx (upd to (3 * tl) so) 1 53 (by omega) (by omega) (by omega) (by omega) hp1 _) zL_RX9_173 (ci := 12) rfl (hW.H.at 0 0 rfl rfl) (zW.pre (gc := [[(x, .inr (12, [.ref a0, .ref a1, .ref a2, .int (nI k), .ref a3, .ref a4, .ref a5, .int (nI ty), .int thr, .int (nI (at_ + 1)), .int (zb bF), .int val, .ref a6, .int (nI tl), .int (zb bC)]))], [(a5, .inl (g.2.1 0, 60, .inl tx))], [(a6, .inl (g.2.1 0, 93, .inl (upd to (3 * tl) so)))]]) (gr := []) hW hA0) hS hA0 hls rfl (Nat.le_of_ble_eq_true rfl) ⟨rfl, rfl, Nat.le_of_ble_eq_true rfl, Nat.le_of_ble_eq_true rfl, (Nat.le_of_ble_eq_true rfl), (Nat.le_of_ble_eq_true rfl)⟩ dX9_isPart_109) hW hS hA (fun v gc' H locs hpost hW hS => ?_)
        obtain ⟨rfl, rfl⟩ := hpost
        have hW : zW g A ([[(x, .inr (12, [.ref a0, .ref a1, .ref a2, .int (nI k), .ref a3, .ref a4, .ref a5, .int (nI ty), .int thr, .int (nI ((at_ + 1) + 1)), .int (zb bF), .int val, .ref a6, .int (nI tl), .int (zb bC)]))], [(a5, .inl (g.2.1 0, 60, .inl tx))], [(a6, .inl (g.2.1 0, 93, .inl (upd (upd to (3 * tl) so) (3 * tl + 1) (tx (at_ + 1) - 48))))]] : List va_W) H := hW
        refine W.eq (g2 := F0 zm 112 ls [.int 1]) rfl ?_
        refine zWR.zret X hAe hW hS hr rfl hlocks ?_ (Nat.le_of_ble_eq_true rfl) (Nat.le_of_ble_eq_true rfl) dX9_isPart_112
        unfold p_ok p_j p_a p_b
        have e : p_part tx ty at_ = p_dg tx ty (at_ + 1) 53 := by unfold p_part; rw [← hso, if_neg sw38_98, if_pos sw38_109]
        rw [e]
        have e2 : p_dg tx ty (at_ + 1) 53 = (true, at_ + 1 + 1, tx (at_ + 1) - 48, 0) := by unfold p_dg; rw [if_pos hp1]
        rw [e2]
        refine ⟨_, _, rfl, rfl, fun h => ⟨?_, upd_s, fun h2 => ?_⟩, fun j h => ?_⟩
        · rw [upd_n (by omega), upd_s, hso]
        · rw [← hso, sw38_109] at h2
          exact absurd h2 (by decide)
        · rw [upd_n (by omega), upd_n (by omega)]
    by_cases sw38_110 : so = 110
    · refine z_stk (b := [.int 110]) (by rw [sw38_110]) ?_
      refine lv_lookup (off := 90) (tgt := 128) hx hb dX9_isPart_38 (by decide) (by decide) (by decide) ?_
      refine lv_aload_n hx hb dX9_isPart_128 rfl (lv_at hl 1 rfl) ?_
      refine lv_dup hx hb dX9_isPart_129 rfl ?_
      refine z_get X (hW.H.at 0 0 rfl rfl) zF_RX9_154_12 rfl dX9_isPart_130 ?_
      refine lv_iconst (v := 1) hx hb dX9_isPart_133 rfl ?_
      refine lv_iadd hx hb dX9_isPart_134 ?_
      refine z_stk (b := [.int (nI (at_ + 1)), .ref x]) (by rw [show ((nI at_) + 1) = nI (at_ + 1) from zx_add rfl rfl]) ?_
      refine z_put X hW hS 0 0 rfl rfl zP_RX9_154_12 rfl rfl (Nat.le_of_ble_eq_true rfl) dX9_isPart_135 (fun H locs hW hS => ?_)
      have hW : zW g A ([[(x, .inr (12, [.ref a0, .ref a1, .ref a2, .int (nI k), .ref a3, .ref a4, .ref a5, .int (nI ty), .int thr, .int (nI (at_ + 1)), .int (zb bF), .int val, .ref a6, .int (nI tl), .int (zb bC)]))], [(a5, .inl (g.2.1 0, 60, .inl tx))], [(a6, .inl (g.2.1 0, 93, .inl (upd to (3 * tl) so)))]] : List va_W) H := hW
      refine lv_aload_n hx hb dX9_isPart_138 rfl (lv_at hl 1 rfl) ?_
      refine lv_iconst (v := 1) hx hb dX9_isPart_139 rfl ?_
      refine zc_wr (gc := [[(x, .inr (12, [.ref a0, .ref a1, .ref a2, .int (nI k), .ref a3, .ref a4, .ref a5, .int (nI ty), .int thr, .int (nI (at_ + 1)), .int (zb bF), .int val, .ref a6, .int (nI tl), .int (zb bC)]))], [(a5, .inl (g.2.1 0, 60, .inl tx))], [(a6, .inl (g.2.1 0, 93, .inl (upd to (3 * tl) so)))]]) (gr := []) (zr_V (As := [.int 1]) (rest := []) X (m_X9_areDays l g x a0 a1 a2 a3 a4 a5 a6 k ty (at_ + 1) tl thr val bF bC tx (upd to (3 * tl) so) 1 (by omega) (by omega) (by omega) (by omega) _) zL_RX9_176 (ci := 12) rfl (hW.H.at 0 0 rfl rfl) (zW.pre (gc := [[(x, .inr (12, [.ref a0, .ref a1, .ref a2, .int (nI k), .ref a3, .ref a4, .ref a5, .int (nI ty), .int thr, .int (nI (at_ + 1)), .int (zb bF), .int val, .ref a6, .int (nI tl), .int (zb bC)]))], [(a5, .inl (g.2.1 0, 60, .inl tx))], [(a6, .inl (g.2.1 0, 93, .inl (upd to (3 * tl) so)))]]) (gr := []) hW hA0) hS hA0 hls rfl (Nat.le_of_ble_eq_true rfl) ⟨rfl, rfl, Nat.le_of_ble_eq_true rfl, Nat.le_of_ble_eq_true rfl, (Nat.le_of_ble_eq_true rfl), (Nat.le_of_ble_eq_true rfl)⟩ dX9_isPart_140) hW hS hA (fun v gc' H locs hpost hW hS => ?_)
      obtain ⟨to3, val4, rfl, rfl, hto3, oto3⟩ := hpost
      have hW : zW g A ([[(x, .inr (12, [.ref a0, .ref a1, .ref a2, .int (nI k), .ref a3, .ref a4, .ref a5, .int (nI ty), .int thr, .int (nI ((p_dy tx ty (at_ + 1)).2.1)), .int (zb (if (p_dy tx ty (at_ + 1)).1 then bF else decide ((p_dy tx ty (at_ + 1)).2.1 < ty))), .int val4, .ref a6, .int (nI tl), .int (zb bC)]))], [(a5, .inl (g.2.1 0, 60, .inl tx))], [(a6, .inl (g.2.1 0, 93, .inl to3))]] : List va_W) H := hW
      refine W.eq (g2 := F0 zm 143 ls [.int (zb ((p_dy tx ty (at_ + 1)).1))]) rfl ?_
      refine zWR.zret X hAe hW hS hr (zb_nar _) hlocks ?_ (Nat.le_of_ble_eq_true rfl) (Nat.le_of_ble_eq_true rfl) dX9_isPart_143
      unfold p_ok p_j p_a p_b
      have e : p_part tx ty at_ = p_dy tx ty (at_ + 1) := by unfold p_part; rw [← hso, if_neg sw38_98, if_neg sw38_109, if_pos sw38_110]
      rw [e]
      refine ⟨_, _, rfl, rfl, fun h => ⟨?_, hto3 h, fun h2 => ?_⟩, fun j h => ?_⟩
      · rw [oto3 _ (by omega), upd_s, hso]
      · rw [← hso, sw38_110] at h2
        exact absurd h2 (by decide)
      · rw [oto3 _ (by omega), upd_n (by omega)]
    by_cases sw38_120 : so = 120
    · refine z_stk (b := [.int 120]) (by rw [sw38_120]) ?_
      refine lv_lookup (off := 75) (tgt := 113) hx hb dX9_isPart_38 (by decide) (by decide) (by decide) ?_
      refine lv_aload_n hx hb dX9_isPart_113 rfl (lv_at hl 1 rfl) ?_
      refine lv_dup hx hb dX9_isPart_114 rfl ?_
      refine z_get X (hW.H.at 0 0 rfl rfl) zF_RX9_154_12 rfl dX9_isPart_115 ?_
      refine lv_iconst (v := 1) hx hb dX9_isPart_118 rfl ?_
      refine lv_iadd hx hb dX9_isPart_119 ?_
      refine z_stk (b := [.int (nI (at_ + 1)), .ref x]) (by rw [show ((nI at_) + 1) = nI (at_ + 1) from zx_add rfl rfl]) ?_
      refine z_put X hW hS 0 0 rfl rfl zP_RX9_154_12 rfl rfl (Nat.le_of_ble_eq_true rfl) dX9_isPart_120 (fun H locs hW hS => ?_)
      have hW : zW g A ([[(x, .inr (12, [.ref a0, .ref a1, .ref a2, .int (nI k), .ref a3, .ref a4, .ref a5, .int (nI ty), .int thr, .int (nI (at_ + 1)), .int (zb bF), .int val, .ref a6, .int (nI tl), .int (zb bC)]))], [(a5, .inl (g.2.1 0, 60, .inl tx))], [(a6, .inl (g.2.1 0, 93, .inl (upd to (3 * tl) so)))]] : List va_W) H := hW
      refine lv_aload_n hx hb dX9_isPart_123 rfl (lv_at hl 1 rfl) ?_
      refine zc_wr (gc := [[(x, .inr (12, [.ref a0, .ref a1, .ref a2, .int (nI k), .ref a3, .ref a4, .ref a5, .int (nI ty), .int thr, .int (nI (at_ + 1)), .int (zb bF), .int val, .ref a6, .int (nI tl), .int (zb bC)]))], [(a5, .inl (g.2.1 0, 60, .inl tx))], [(a6, .inl (g.2.1 0, 93, .inl (upd to (3 * tl) so)))]]) (gr := []) (zr_V (As := []) (rest := []) X (m_X9_isComplaint l g x a0 a1 a2 a3 a4 a5 a6 k ty (at_ + 1) tl thr val bF bC tx (upd to (3 * tl) so) (by omega) (by omega) (by omega) _) zL_RX9_182 (ci := 12) rfl (hW.H.at 0 0 rfl rfl) (zW.pre (gc := [[(x, .inr (12, [.ref a0, .ref a1, .ref a2, .int (nI k), .ref a3, .ref a4, .ref a5, .int (nI ty), .int thr, .int (nI (at_ + 1)), .int (zb bF), .int val, .ref a6, .int (nI tl), .int (zb bC)]))], [(a5, .inl (g.2.1 0, 60, .inl tx))], [(a6, .inl (g.2.1 0, 93, .inl (upd to (3 * tl) so)))]]) (gr := []) hW hA0) hS hA0 hls rfl (Nat.le_of_ble_eq_true rfl) ⟨rfl, rfl, Nat.le_of_ble_eq_true rfl, Nat.le_of_ble_eq_true rfl, (Nat.le_of_ble_eq_true rfl), (Nat.le_of_ble_eq_true rfl)⟩ dX9_isPart_124) hW hS hA (fun v gc' H locs hpost hW hS => ?_)
      obtain ⟨to5, val6, rfl, rfl, hto5, oto5⟩ := hpost
      have hW : zW g A ([[(x, .inr (12, [.ref a0, .ref a1, .ref a2, .int (nI k), .ref a3, .ref a4, .ref a5, .int (nI ty), .int thr, .int (nI ((p_cmp tx ty (at_ + 1)).2.1)), .int (zb (if (p_cmp tx ty (at_ + 1)).1 then bF else decide ((p_cmp tx ty (at_ + 1)).2.1 < ty))), .int val6, .ref a6, .int (nI tl), .int (zb bC)]))], [(a5, .inl (g.2.1 0, 60, .inl tx))], [(a6, .inl (g.2.1 0, 93, .inl to5))]] : List va_W) H := hW
      refine W.eq (g2 := F0 zm 127 ls [.int (zb ((p_cmp tx ty (at_ + 1)).1))]) rfl ?_
      refine zWR.zret X hAe hW hS hr (zb_nar _) hlocks ?_ (Nat.le_of_ble_eq_true rfl) (Nat.le_of_ble_eq_true rfl) dX9_isPart_127
      unfold p_ok p_j p_a p_b
      have e : p_part tx ty at_ = p_cmp tx ty (at_ + 1) := by unfold p_part; rw [← hso, if_neg sw38_98, if_neg sw38_109, if_neg sw38_110, if_pos sw38_120]
      rw [e]
      refine ⟨_, _, rfl, rfl, fun h => ⟨?_, (hto5 h).1, fun _ => (hto5 h).2⟩, fun j h => ?_⟩
      · rw [oto5 _ (by omega) (by omega), upd_s, hso]
      · rw [oto5 _ (by omega) (by omega), upd_n (by omega)]
    refine lv_lookup (off := 106) (tgt := 144) hx hb dX9_isPart_38 (by decide) ((lv_osw sw38_98 (by decide)).trans ((lv_osw sw38_109 (by decide)).trans ((lv_osw sw38_110 (by decide)).trans ((lv_osw sw38_120 (by decide)).trans rfl)))) (by decide) ?_
    refine lv_aload_n hx hb dX9_isPart_144 rfl (lv_at hl 1 rfl) ?_
    refine zc_wr (gc := [[(x, .inr (12, [.ref a0, .ref a1, .ref a2, .int (nI k), .ref a3, .ref a4, .ref a5, .int (nI ty), .int thr, .int (nI at_), .int (zb bF), .int val, .ref a6, .int (nI tl), .int (zb bC)]))]]) (gr := [[(a5, .inl (g.2.1 0, 60, .inl tx))], [(a6, .inl (g.2.1 0, 93, .inl (upd to (3 * tl) so)))]]) (zr_V (As := []) (rest := []) X (m_X9_stops l g x a0 a1 a2 a3 a4 a5 a6 k ty at_ tl thr val bF bC (by omega) (by omega) _) zL_RX9_163 (ci := 12) rfl (hW.H.at 0 0 rfl rfl) (zW.pre (gc := [[(x, .inr (12, [.ref a0, .ref a1, .ref a2, .int (nI k), .ref a3, .ref a4, .ref a5, .int (nI ty), .int thr, .int (nI at_), .int (zb bF), .int val, .ref a6, .int (nI tl), .int (zb bC)]))]]) (gr := [[(a5, .inl (g.2.1 0, 60, .inl tx))], [(a6, .inl (g.2.1 0, 93, .inl (upd to (3 * tl) so)))]]) hW hA0) hS hA0 hls rfl (Nat.le_of_ble_eq_true rfl) ⟨rfl, rfl, Nat.le_of_ble_eq_true rfl, Nat.le_of_ble_eq_true rfl, (Nat.le_of_ble_eq_true rfl), (Nat.le_of_ble_eq_true rfl)⟩ dX9_isPart_145) hW hS hA (fun v gc' H locs hpost hW hS => ?_)
    obtain ⟨rfl, rfl⟩ := hpost
    have hW : zW g A ([[(x, .inr (12, [.ref a0, .ref a1, .ref a2, .int (nI k), .ref a3, .ref a4, .ref a5, .int (nI ty), .int thr, .int (nI at_), .int (zb (decide (at_ < ty))), .int val, .ref a6, .int (nI tl), .int (zb bC)]))], [(a5, .inl (g.2.1 0, 60, .inl tx))], [(a6, .inl (g.2.1 0, 93, .inl (upd to (3 * tl) so)))]] : List va_W) H := hW
    refine W.eq (g2 := F0 zm 148 ls [.int 0]) rfl ?_
    refine zWR.zret X hAe hW hS hr rfl hlocks ?_ (Nat.le_of_ble_eq_true rfl) (Nat.le_of_ble_eq_true rfl) dX9_isPart_148
    unfold p_ok p_j p_a p_b
    have e : p_part tx ty at_ = (false, at_, 0, 0) := by unfold p_part; rw [← hso, if_neg sw38_98, if_neg sw38_109, if_neg sw38_110, if_neg sw38_120]
    rw [e]
    exact ⟨_, _, rfl, rfl, fun h => absurd (show false = true from h) (by decide), fun j h => upd_n (by omega)⟩
  refine lv_aload_n hx hb dX9_isPart_0 rfl (lv_at hl 0 rfl) ?_
  refine z_get X (hW.H.at 0 0 rfl rfl) zF_RX9_154_12 rfl dX9_isPart_1 ?_
  refine lv_aload_n hx hb dX9_isPart_4 rfl (lv_at hl 0 rfl) ?_
  refine z_get X (hW.H.at 0 0 rfl rfl) zF_RX9_151_12 rfl dX9_isPart_5 ?_
  refine lv_icmp_ge (tgt := 23) hx hb dX9_isPart_8 (by decide) (fun c8_6 => ?_) (fun c8_6 => ?_)
  · skip
    have kc8_6 := (zn_le (a := ty) (b := at_) rfl rfl (by omega) (by omega)).mp c8_6
    refine lv_iconst (v := 0) hx hb dX9_isPart_23 rfl ?_
    exact hj24 _ (by unfold p_sort; first | rw [if_pos (by omega)] | rw [if_neg (by omega)]) _ _ hW hS _ (lv_sub hl [0] rfl)
  · skip
    have kc8_6 := mt (zn_le (a := ty) (b := at_) rfl rfl (by omega) (by omega)).mpr c8_6
    refine lv_aload_n hx hb dX9_isPart_11 rfl (lv_at hl 0 rfl) ?_
    refine z_get X (hW.H.at 0 0 rfl rfl) zF_RX9_26_12 rfl dX9_isPart_12 ?_
    refine lv_aload_n hx hb dX9_isPart_15 rfl (lv_at hl 0 rfl) ?_
    refine z_get X (hW.H.at 0 0 rfl rfl) zF_RX9_154_12 rfl dX9_isPart_16 ?_
    refine z_iald X (j := at_) (hW.H.at 1 0 rfl rfl) rfl (by omega) (by decide) dX9_isPart_19 ?_
    refine lv_goto (tgt := 24) hx hb dX9_isPart_20 (by decide) ?_
    exact hj24 _ (by unfold p_sort; first | rw [if_pos (by omega)] | rw [if_neg (by omega)]) _ _ hW hS _ (lv_sub hl [0] rfl)
