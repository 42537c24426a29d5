set_option maxRecDepth 100000
theorem zL_RX9_47 : zLV RX9 47 RX9 yX9_fails cX9_fails 2 (Option.some Jvm.ClassFile.FieldType.int) 1 := ⟨.inl q1657, q1659, qs46, q103, rfl, q1660, ⟨by decide +kernel, by decide +kernel, by decide +kernel⟩⟩
theorem zL_RX9_51 : zLV RX9 51 RX9 yX9_saves cX9_saves 2 (Option.none : Option Jvm.ClassFile.FieldType) 0 := ⟨.inl q1675, q1677, qs47, q103, rfl, q1678, ⟨by decide +kernel, by decide +kernel, by decide +kernel⟩⟩
theorem zL_RX9_118 : zLV RX9 118 RX9 yX9_isBarge cX9_isBarge 2 (Option.some Jvm.ClassFile.FieldType.boolean) 1 := ⟨.inl q1687, q1689, qs48, q103, rfl, q1690, ⟨by decide +kernel, by decide +kernel, by decide +kernel⟩⟩
theorem zL_RX9_122 : zLV RX9 122 RX9 yX9_changes cX9_changes 4 (Option.some Jvm.ClassFile.FieldType.int) 2 := ⟨.inl q1691, q1693, qs49, q103, rfl, q1694, ⟨by decide +kernel, by decide +kernel, by decide +kernel⟩⟩
theorem zL_RX9_126 : zLS RX9 126 yX9_isReach cX9_isReach 1 (Option.some Jvm.ClassFile.FieldType.boolean) 1 := ⟨.inl q1699, q1700, q103, q1701, ⟨by decide +kernel, by decide +kernel, by decide +kernel⟩⟩
theorem zL_RX9_129 : zLS RX9 129 yX9_isMeadow cX9_isMeadow 1 (Option.some Jvm.ClassFile.FieldType.boolean) 1 := ⟨.inl q1710, q1711, q103, q1712, ⟨by decide +kernel, by decide +kernel, by decide +kernel⟩⟩
theorem zL_RX9_135 : zLV RX9 135 RX9 yX9_stopsFor cX9_stopsFor 5 (Option.some Jvm.ClassFile.FieldType.int) 2 := ⟨.inl q1727, q1729, qs50, q103, rfl, q1730, ⟨by decide +kernel, by decide +kernel, by decide +kernel⟩⟩
abbrev rm_X9_barge_bad1 : Room := { frames := 1, cells := 0, slots := 0, locals := 22 }
set_option maxHeartbeats 4000000 in
set_option maxRecDepth 100000 in
theorem m_X9_barge_bad1 (l : Launch) (g : zG) (x a0 a1 a2 a3 a4 a5 a6 : Nat) (k ty at_ tl : Nat) (thr val : Int32) (bF bC : Bool) (q : Int32) (hbad : m_in q 2 20 = false) (sz : Nat) : zWR l yX9_barge cX9_barge 4 (Option.some Jvm.ClassFile.FieldType.int) rm_X9_barge_bad1 g [.ref x, .int q] ([[(x, .inr (12, [.ref a0, .ref a1, .ref a2, .int (nI k), .ref a3, .ref a4, .ref a5, .int (nI ty), .int thr, .int (nI at_), .int (zb bF), .int val, .ref a6, .int (nI tl), .int (zb bC)]))]] : List va_W) 0 0 sz (fun zv gs' => zv = some (.int (0)) ∧ gs' = [[(x, .inr (12, [.ref a0, .ref a1, .ref a2, .int (nI k), .ref a3, .ref a4, .ref a5, .int (nI ty), .int 1, .int (nI at_), .int (zb bF), .int val, .ref a6, .int (nI tl), .int (zb bC)]))]]) := by
  refine zWR.start (by decide) (Nat.le_of_ble_eq_true rfl) ?_
  intro zp ze s zm zbl zmt zc ls A X hr hlocks hinn hl hAe hW hS hA hA0
  have hx := X.1
  have hb := X.2.1
  have hml := X.2.2.1
  have hown := X.2.2.2.1
  have hls := hl.1
  have hl : lv_has ls 4 [(0, .ref x), (1, .int q)] := hl
  refine lv_aload_n hx hb dX9_barge_0 rfl (lv_at hl 0 rfl) ?_
  refine lv_iconst (v := 0) hx hb dX9_barge_1 rfl ?_
  refine z_put X hW hS 0 0 rfl rfl zP_RX9_32_12 rfl rfl (Nat.le_of_ble_eq_true rfl) dX9_barge_2 (fun H locs hW hS => ?_)
  have hW : zW g A ([[(x, .inr (12, [.ref a0, .ref a1, .ref a2, .int (nI k), .ref a3, .ref a4, .ref a5, .int (nI ty), .int 0, .int (nI at_), .int (zb bF), .int val, .ref a6, .int (nI tl), .int (zb bC)]))]] : List va_W) H := hW
  refine lv_iload_n hx hb dX9_barge_5 rfl (lv_at hl 1 rfl) ?_
  refine lv_iconst (v := 2) hx hb dX9_barge_6 rfl ?_
  refine lv_bipush (v := 20) hx hb dX9_barge_7 (by decide) ?_
  refine zc_ro (zr_S (As := [.int q, .int 2, .int 20]) (rest := []) X (m_X9_in l g q 2 20) zL_RX9_36 trivial hS hA0 hls rfl (Nat.le_of_ble_eq_true rfl) ⟨rfl, rfl, Nat.le_of_ble_eq_true rfl, Nat.le_of_ble_eq_true rfl, (Nat.le_of_ble_eq_true rfl), (Nat.le_of_ble_eq_true rfl)⟩ dX9_barge_9) ?_
  refine zb_ifne (tgt := 21) hx hb dX9_barge_12 (by decide) (fun c12_0 => ?_) (fun c12_0 => ?_)
  · exact absurd (hbad.symm.trans c12_0) (by decide)
  · skip
    refine lv_aload_n hx hb dX9_barge_15 rfl (lv_at hl 0 rfl) ?_
    refine lv_iconst (v := 1) hx hb dX9_barge_16 rfl ?_
    refine zc_wr (gc := [[(x, .inr (12, [.ref a0, .ref a1, .ref a2, .int (nI k), .ref a3, .ref a4, .ref a5, .int (nI ty), .int 0, .int (nI at_), .int (zb bF), .int val, .ref a6, .int (nI tl), .int (zb bC)]))]]) (gr := []) (zr_V (As := [.int 1]) (rest := []) X (m_X9_fails l g x a0 a1 a2 a3 a4 a5 a6 k ty at_ tl 0 val bF bC 1 _) zL_RX9_47 (ci := 12) rfl (hW.H.at 0 0 rfl rfl) (zW.pre (gc := [[(x, .inr (12, [.ref a0, .ref a1, .ref a2, .int (nI k), .ref a3, .ref a4, .ref a5, .int (nI ty), .int 0, .int (nI at_), .int (zb bF), .int val, .ref a6, .int (nI tl), .int (zb bC)]))]]) (gr := []) hW hA0) hS hA0 hls rfl (Nat.le_of_ble_eq_true rfl) ⟨rfl, rfl, Nat.le_of_ble_eq_true rfl, Nat.le_of_ble_eq_true rfl, (Nat.le_of_ble_eq_true rfl), (Nat.le_of_ble_eq_true rfl)⟩ dX9_barge_17) hW hS hA (fun v gc' H locs hpost hW hS => ?_)
    obtain ⟨rfl, rfl⟩ := hpost
    have hW : zW g A ([[(x, .inr (12, [.ref a0, .ref a1, .ref a2, .int (nI k), .ref a3, .ref a4, .ref a5, .int (nI ty), .int 1, .int (nI at_), .int (zb bF), .int val, .ref a6, .int (nI tl), .int (zb bC)]))]] : List va_W) H := hW
    refine W.eq (g2 := F0 zm 20 ls [.int 0]) rfl ?_
    refine zWR.iret X hAe hW hS hr hlocks ?_ (Nat.le_of_ble_eq_true rfl) (Nat.le_of_ble_eq_true rfl) dX9_barge_20
    exact ⟨rfl, rfl⟩

abbrev rm_X9_barge_bad2 : Room := { frames := 1, cells := 0, slots := 0, locals := 22 }
set_option maxHeartbeats 4000000 in
set_option maxRecDepth 100000 in
theorem m_X9_barge_bad2 (l : Launch) (g : zG) (x a0 a1 a2 a3 a4 a5 a6 : Nat) (k ty at_ tl : Nat) (thr val : Int32) (bF bC : Bool) (f : Nat → Int32) (q : Int32) (hq : m_in q 2 20 = true) (h6 : f 6 = 4) (sz : Nat) : zWR l yX9_barge cX9_barge 4 (Option.some Jvm.ClassFile.FieldType.int) rm_X9_barge_bad2 g [.ref x, .int q] ([[(x, .inr (12, [.ref a0, .ref a1, .ref a2, .int (nI k), .ref a3, .ref a4, .ref a5, .int (nI ty), .int thr, .int (nI at_), .int (zb bF), .int val, .ref a6, .int (nI tl), .int (zb bC)]))], [(a0, .inl (g.2.1 0, 89, .inl f))]] : List va_W) 0 0 sz (fun zv gs' => zv = some (.int (0)) ∧ gs' = [[(x, .inr (12, [.ref a0, .ref a1, .ref a2, .int (nI k), .ref a3, .ref a4, .ref a5, .int (nI ty), .int 2, .int (nI at_), .int (zb bF), .int val, .ref a6, .int (nI tl), .int (zb bC)]))], [(a0, .inl (g.2.1 0, 89, .inl f))]]) := by
  refine zWR.start (by decide) (Nat.le_of_ble_eq_true rfl) ?_
  intro zp ze s zm zbl zmt zc ls A X hr hlocks hinn hl hAe hW hS hA hA0
  have hx := X.1
  have hb := X.2.1
  have hml := X.2.2.1
  have hown := X.2.2.2.1
  have hls := hl.1
  have hl : lv_has ls 4 [(0, .ref x), (1, .int q)] := hl
  refine lv_aload_n hx hb dX9_barge_0 rfl (lv_at hl 0 rfl) ?_
  refine lv_iconst (v := 0) hx hb dX9_barge_1 rfl ?_
  refine z_put X hW hS 0 0 rfl rfl zP_RX9_32_12 rfl rfl (Nat.le_of_ble_eq_true rfl) dX9_barge_2 (fun H locs hW hS => ?_)
  have hW : zW g A ([[(x, .inr (12, [.ref a0, .ref a1, .ref a2, .int (nI k), .ref a3, .ref a4, .ref a5, .int (nI ty), .int 0, .int (nI at_), .int (zb bF), .int val, .ref a6, .int (nI tl), .int (zb bC)]))], [(a0, .inl (g.2.1 0, 89, .inl f))]] : List va_W) H := hW
  refine lv_iload_n hx hb dX9_barge_5 rfl (lv_at hl 1 rfl) ?_
  refine lv_iconst (v := 2) hx hb dX9_barge_6 rfl ?_
  refine lv_bipush (v := 20) hx hb dX9_barge_7 (by decide) ?_
  refine zc_ro (zr_S (As := [.int q, .int 2, .int 20]) (rest := []) X (m_X9_in l g q 2 20) zL_RX9_36 trivial hS hA0 hls rfl (Nat.le_of_ble_eq_true rfl) ⟨rfl, rfl, Nat.le_of_ble_eq_true rfl, Nat.le_of_ble_eq_true rfl, (Nat.le_of_ble_eq_true rfl), (Nat.le_of_ble_eq_true rfl)⟩ dX9_barge_9) ?_
  refine zb_ifne (tgt := 21) hx hb dX9_barge_12 (by decide) (fun c12_0 => ?_) (fun c12_0 => ?_)
  · skip
    refine lv_aload_n hx hb dX9_barge_21 rfl (lv_at hl 0 rfl) ?_
    refine z_get X (hW.H.at 0 0 rfl rfl) zF_RX9_7_12 rfl dX9_barge_22 ?_
    refine lv_bipush (v := 6) hx hb dX9_barge_25 (by decide) ?_
    refine z_iald X (j := 6) (hW.H.at 1 0 rfl rfl) rfl (by omega) (by decide) dX9_barge_27 ?_
    refine z_stk (b := [.int 4]) (by rw [show (f 6) = 4 from h6]) ?_
    refine lv_iconst (v := 4) hx hb dX9_barge_28 rfl ?_
    refine lv_icmp_ne (tgt := 38) hx hb dX9_barge_29 (by decide) (fun c29_1 => ?_) (fun c29_1 => ?_)
    · exact absurd c29_1 (by decide)
    · skip
      refine lv_aload_n hx hb dX9_barge_32 rfl (lv_at hl 0 rfl) ?_
      refine lv_iconst (v := 2) hx hb dX9_barge_33 rfl ?_
      refine zc_wr (gc := [[(x, .inr (12, [.ref a0, .ref a1, .ref a2, .int (nI k), .ref a3, .ref a4, .ref a5, .int (nI ty), .int 0, .int (nI at_), .int (zb bF), .int val, .ref a6, .int (nI tl), .int (zb bC)]))]]) (gr := [[(a0, .inl (g.2.1 0, 89, .inl f))]]) (zr_V (As := [.int 2]) (rest := []) X (m_X9_fails l g x a0 a1 a2 a3 a4 a5 a6 k ty at_ tl 0 val bF bC 2 _) zL_RX9_47 (ci := 12) rfl (hW.H.at 0 0 rfl rfl) (zW.pre (gc := [[(x, .inr (12, [.ref a0, .ref a1, .ref a2, .int (nI k), .ref a3, .ref a4, .ref a5, .int (nI ty), .int 0, .int (nI at_), .int (zb bF), .int val, .ref a6, .int (nI tl), .int (zb bC)]))]]) (gr := [[(a0, .inl (g.2.1 0, 89, .inl f))]]) hW hA0) hS hA0 hls rfl (Nat.le_of_ble_eq_true rfl) ⟨rfl, rfl, Nat.le_of_ble_eq_true rfl, Nat.le_of_ble_eq_true rfl, (Nat.le_of_ble_eq_true rfl), (Nat.le_of_ble_eq_true rfl)⟩ dX9_barge_34) hW hS hA (fun v gc' H locs hpost hW hS => ?_)
      obtain ⟨rfl, rfl⟩ := hpost
      have hW : zW g A ([[(x, .inr (12, [.ref a0, .ref a1, .ref a2, .int (nI k), .ref a3, .ref a4, .ref a5, .int (nI ty), .int 2, .int (nI at_), .int (zb bF), .int val, .ref a6, .int (nI tl), .int (zb bC)]))], [(a0, .inl (g.2.1 0, 89, .inl f))]] : List va_W) H := hW
      refine W.eq (g2 := F0 zm 37 ls [.int 0]) rfl ?_
      refine zWR.iret X hAe hW hS hr hlocks ?_ (Nat.le_of_ble_eq_true rfl) (Nat.le_of_ble_eq_true rfl) dX9_barge_37
      exact ⟨rfl, rfl⟩
  · exact absurd (hq.symm.trans c12_0) (by decide)

abbrev rm_X9_barge_ok : Room := { frames := 2, cells := 0, slots := 0, locals := 45 }
set_option maxHeartbeats 4000000 in
set_option maxRecDepth 100000 in
theorem m_X9_barge_ok (l : Launch) (g : zG) (x a0 a1 a2 a3 a4 a5 a6 : Nat) (k ty at_ tl : Nat) (thr val : Int32) (bF bC : Bool) (f pa : Nat → Int32) (q : Int32) (n : Nat) (hq : m_in q 2 20 = true) (hn : n < 4) (h6 : f 6 = nI n) (hk : k ≤ 6) (sz : Nat) : zWR l yX9_barge cX9_barge 4 (Option.some Jvm.ClassFile.FieldType.int) rm_X9_barge_ok g [.ref x, .int q] ([[(x, .inr (12, [.ref a0, .ref a1, .ref a2, .int (nI k), .ref a3, .ref a4, .ref a5, .int (nI ty), .int thr, .int (nI at_), .int (zb bF), .int val, .ref a6, .int (nI tl), .int (zb bC)]))], [(a0, .inl (g.2.1 0, 89, .inl f))], [(a2, .inl (g.2.1 0, 534, .inl pa))]] : List va_W) 0 0 sz (fun zv gs' => zv = some (.int (nI n)) ∧ gs' = [[(x, .inr (12, [.ref a0, .ref a1, .ref a2, .int (nI (m_sk k + 1)), .ref a3, .ref a4, .ref a5, .int (nI ty), .int 0, .int (nI at_), .int (zb bF), .int val, .ref a6, .int (nI tl), .int (zb bC)]))], [(a0, .inl (g.2.1 0, 89, .inl (m_new f n q)))], [(a2, .inl (g.2.1 0, 534, .inl (m_save f k pa)))]]) := by
  refine zWR.start (by decide) (Nat.le_of_ble_eq_true rfl) ?_
  intro zp ze s zm zbl zmt zc ls A X hr hlocks hinn hl hAe hW hS hA hA0
  have hx := X.1
  have hb := X.2.1
  have hml := X.2.2.1
  have hown := X.2.2.2.1
  have hls := hl.1
  have hl : lv_has ls 4 [(0, .ref x), (1, .int q)] := hl
  refine lv_aload_n hx hb dX9_barge_0 rfl (lv_at hl 0 rfl) ?_
  refine lv_iconst (v := 0) hx hb dX9_barge_1 rfl ?_
  refine z_put X hW hS 0 0 rfl rfl zP_RX9_32_12 rfl rfl (Nat.le_of_ble_eq_true rfl) dX9_barge_2 (fun H locs hW hS => ?_)
  have hW : zW g A ([[(x, .inr (12, [.ref a0, .ref a1, .ref a2, .int (nI k), .ref a3, .ref a4, .ref a5, .int (nI ty), .int 0, .int (nI at_), .int (zb bF), .int val, .ref a6, .int (nI tl), .int (zb bC)]))], [(a0, .inl (g.2.1 0, 89, .inl f))], [(a2, .inl (g.2.1 0, 534, .inl pa))]] : List va_W) H := hW
  refine lv_iload_n hx hb dX9_barge_5 rfl (lv_at hl 1 rfl) ?_
  refine lv_iconst (v := 2) hx hb dX9_barge_6 rfl ?_
  refine lv_bipush (v := 20) hx hb dX9_barge_7 (by decide) ?_
  refine zc_ro (zr_S (As := [.int q, .int 2, .int 20]) (rest := []) X (m_X9_in l g q 2 20) zL_RX9_36 trivial hS hA0 hls rfl (Nat.le_of_ble_eq_true rfl) ⟨rfl, rfl, Nat.le_of_ble_eq_true rfl, Nat.le_of_ble_eq_true rfl, (Nat.le_of_ble_eq_true rfl), (Nat.le_of_ble_eq_true rfl)⟩ dX9_barge_9) ?_
  refine zb_ifne (tgt := 21) hx hb dX9_barge_12 (by decide) (fun c12_0 => ?_) (fun c12_0 => ?_)
  · skip
    refine lv_aload_n hx hb dX9_barge_21 rfl (lv_at hl 0 rfl) ?_
    refine z_get X (hW.H.at 0 0 rfl rfl) zF_RX9_7_12 rfl dX9_barge_22 ?_
    refine lv_bipush (v := 6) hx hb dX9_barge_25 (by decide) ?_
    refine z_iald X (j := 6) (hW.H.at 1 0 rfl rfl) rfl (by omega) (by decide) dX9_barge_27 ?_
    refine z_stk (b := [.int (nI n)]) (by rw [show (f 6) = nI n from h6]) ?_
    refine lv_iconst (v := 4) hx hb dX9_barge_28 rfl ?_
    refine lv_icmp_ne (tgt := 38) hx hb dX9_barge_29 (by decide) (fun c29_1 => ?_) (fun c29_1 => ?_)
    · skip
      have kc29_1 := mt (zn_eq (a := n) (b := 4) rfl rfl (by omega) (by omega)).mpr c29_1
      refine lv_aload_n hx hb dX9_barge_38 rfl (lv_at hl 0 rfl) ?_
      refine zc_wr (gc := [[(x, .inr (12, [.ref a0, .ref a1, .ref a2, .int (nI k), .ref a3, .ref a4, .ref a5, .int (nI ty), .int 0, .int (nI at_), .int (zb bF), .int val, .ref a6, .int (nI tl), .int (zb bC)]))], [(a0, .inl (g.2.1 0, 89, .inl f))], [(a2, .inl (g.2.1 0, 534, .inl pa))]]) (gr := []) (zr_V (As := []) (rest := []) X (m_X9_saves l g x a0 a1 a2 a3 a4 a5 a6 k ty at_ tl 0 val bF bC f pa hk _) zL_RX9_51 (ci := 12) rfl (hW.H.at 0 0 rfl rfl) (zW.pre (gc := [[(x, .inr (12, [.ref a0, .ref a1, .ref a2, .int (nI k), .ref a3, .ref a4, .ref a5, .int (nI ty), .int 0, .int (nI at_), .int (zb bF), .int val, .ref a6, .int (nI tl), .int (zb bC)]))], [(a0, .inl (g.2.1 0, 89, .inl f))], [(a2, .inl (g.2.1 0, 534, .inl pa))]]) (gr := []) hW hA0) hS hA0 hls rfl (Nat.le_of_ble_eq_true rfl) ⟨rfl, rfl, Nat.le_of_ble_eq_true rfl, Nat.le_of_ble_eq_true rfl, (Nat.le_of_ble_eq_true rfl), (Nat.le_of_ble_eq_true rfl)⟩ dX9_barge_39) hW hS hA (fun v gc' H locs hpost hW hS => ?_)
      obtain ⟨rfl, rfl⟩ := hpost
      have hW : zW g A ([[(x, .inr (12, [.ref a0, .ref a1, .ref a2, .int (nI (m_sk k + 1)), .ref a3, .ref a4, .ref a5, .int (nI ty), .int 0, .int (nI at_), .int (zb bF), .int val, .ref a6, .int (nI tl), .int (zb bC)]))], [(a0, .inl (g.2.1 0, 89, .inl f))], [(a2, .inl (g.2.1 0, 534, .inl (m_save f k pa)))]] : List va_W) H := hW
      refine W.eq (g2 := F0 zm 42 ls []) rfl ?_
      refine lv_bipush (v := 26) hx hb dX9_barge_42 (by decide) ?_
      refine lv_bipush (v := 7) hx hb dX9_barge_44 (by decide) ?_
      refine lv_aload_n hx hb dX9_barge_46 rfl (lv_at hl 0 rfl) ?_
      refine z_get X (hW.H.at 0 0 rfl rfl) zF_RX9_7_12 rfl dX9_barge_47 ?_
      refine lv_bipush (v := 6) hx hb dX9_barge_50 (by decide) ?_
      refine z_iald X (j := 6) (hW.H.at 1 0 rfl rfl) rfl (by omega) (by decide) dX9_barge_52 ?_
      refine z_stk (b := [.int (nI n), .int 7, .int 26]) (by rw [show (f 6) = nI n from h6]) ?_
      refine lv_imul hx hb dX9_barge_53 ?_
      refine lv_iadd hx hb dX9_barge_54 ?_
      refine lv_istore_n (lv' := [(2, .int (26 + (7 * (nI n)))), (0, .ref x), (1, .int q)]) hx hb dX9_barge_55 rfl hl (by decide) rfl (fun ls hl => ?_)
      have hls := hl.1
      refine lv_iconst (v := 0) hx hb dX9_barge_56 rfl ?_
      refine lv_istore_n (lv' := [(3, .int 0), (2, .int (26 + (7 * (nI n)))), (0, .ref x), (1, .int q)]) hx hb dX9_barge_57 rfl hl (by decide) rfl (fun ls hl => ?_)
      have hls := hl.1
      have hj58 : ∀ (zn j : Nat) (h_le : j ≤ 7) (h_fu : 7 < j + zn) (c : Nat → Int32) (hc : c = m_newL f n j) (H : Heap) (locs : List Loc), zW g A ([[(x, .inr (12, [.ref a0, .ref a1, .ref a2, .int (nI (m_sk k + 1)), .ref a3, .ref a4, .ref a5, .int (nI ty), .int 0, .int (nI at_), .int (zb bF), .int val, .ref a6, .int (nI tl), .int (zb bC)]))], [(a0, .inl (g.2.1 0, 89, .inl c))], [(a2, .inl (g.2.1 0, 534, .inl (m_save f k pa)))]] : List va_W) H → va_S A s.heap H locs → ∀ (ls : Array Slot), lv_has ls 4 [(0, .ref x), (1, .int q), (2, .int (26 + (7 * nI n))), (3, .int (nI j))] → W zp l ze rm_X9_barge_ok s zm ([.ref x, .int q] : List Value).toArray zbl zmt zc H locs 0 0 (MQ zbl (zQW g ([[(x, .inr (12, [.ref a0, .ref a1, .ref a2, .int (nI k), .ref a3, .ref a4, .ref a5, .int (nI ty), .int thr, .int (nI at_), .int (zb bF), .int val, .ref a6, .int (nI tl), .int (zb bC)]))], [(a0, .inl (g.2.1 0, 89, .inl f))], [(a2, .inl (g.2.1 0, 534, .inl pa))]] : List va_W) (fun zv gs' => zv = some (.int (nI n)) ∧ gs' = [[(x, .inr (12, [.ref a0, .ref a1, .ref a2, .int (nI (m_sk k + 1)), .ref a3, .ref a4, .ref a5, .int (nI ty), .int 0, .int (nI at_), .int (zb bF), .int val, .ref a6, .int (nI tl), .int (zb bC)]))], [(a0, .inl (g.2.1 0, 89, .inl (m_new f n q)))], [(a2, .inl (g.2.1 0, 534, .inl (m_save f k pa)))]])) ([.ref x, .int q] : List Value).toArray s 0 0 A) (F0 zm 58 ls []) := by
        intro zn
        induction zn with
        | zero => intro j h_le h_fu; exact absurd h_fu (by omega)
        | succ zn ih58 =>
          intro j h_le h_fu c hc H locs hW hS ls hl
          have hls := hl.1
          refine lv_iload_n hx hb dX9_barge_58 rfl (lv_at hl 3 rfl) ?_
          refine lv_bipush (v := 7) hx hb dX9_barge_59 (by decide) ?_
          refine lv_icmp_ge (tgt := 93) hx hb dX9_barge_61 (by decide) (fun c61_2 => ?_) (fun c61_2 => ?_)
          · skip
            have kc61_2 := (zn_le (a := 7) (b := j) rfl rfl (by omega) (by omega)).mp c61_2
            refine lv_aload_n hx hb dX9_barge_93 rfl (lv_at hl 0 rfl) ?_
            refine z_get X (hW.H.at 0 0 rfl rfl) zF_RX9_7_12 rfl dX9_barge_94 ?_
            refine lv_iload_n hx hb dX9_barge_97 rfl (lv_at hl 2 rfl) ?_
            refine lv_iload_n hx hb dX9_barge_98 rfl (lv_at hl 1 rfl) ?_
            refine z_iast X (j := 26 + (7 * n)) hW hS 1 0 rfl rfl (zx_add rfl (zx_mul rfl rfl)) (by omega) (by decide) dX9_barge_99 (fun H locs hW hS => ?_)
            have hW : zW g A ([[(x, .inr (12, [.ref a0, .ref a1, .ref a2, .int (nI (m_sk k + 1)), .ref a3, .ref a4, .ref a5, .int (nI ty), .int 0, .int (nI at_), .int (zb bF), .int val, .ref a6, .int (nI tl), .int (zb bC)]))], [(a0, .inl (g.2.1 0, 89, .inl (upd c (26 + (7 * n)) q)))], [(a2, .inl (g.2.1 0, 534, .inl (m_save f k pa)))]] : List va_W) H := hW
            refine lv_aload_n hx hb dX9_barge_100 rfl (lv_at hl 0 rfl) ?_
            refine z_get X (hW.H.at 0 0 rfl rfl) zF_RX9_7_12 rfl dX9_barge_101 ?_
            refine lv_bipush (v := 6) hx hb dX9_barge_104 (by decide) ?_
            refine lv_dup2_11 hx hb dX9_barge_106 rfl rfl ?_
            refine z_iald X (j := 6) (hW.H.at 1 0 rfl rfl) rfl (by omega) (by decide) dX9_barge_107 ?_
            refine z_stk (b := [.int (nI n), .int 6, .ref a0]) (by rw [show ((upd c (26 + (7 * n)) q) 6) = nI n from (by rw [upd_n (by omega), hc, m_newL_lo (by omega)]; exact h6)]) ?_
            refine lv_iconst (v := 1) hx hb dX9_barge_108 rfl ?_
            refine lv_iadd hx hb dX9_barge_109 ?_
            refine z_stk (b := [.int (nI (n + 1)), .int 6, .ref a0]) (by rw [show ((nI n) + 1) = nI (n + 1) from zx_add rfl rfl]) ?_
            refine z_iast X (j := 6) hW hS 1 0 rfl rfl rfl (by omega) (by decide) dX9_barge_110 (fun H locs hW hS => ?_)
            have hW : zW g A ([[(x, .inr (12, [.ref a0, .ref a1, .ref a2, .int (nI (m_sk k + 1)), .ref a3, .ref a4, .ref a5, .int (nI ty), .int 0, .int (nI at_), .int (zb bF), .int val, .ref a6, .int (nI tl), .int (zb bC)]))], [(a0, .inl (g.2.1 0, 89, .inl (upd (upd c (26 + (7 * n)) q) 6 (nI (n + 1)))))], [(a2, .inl (g.2.1 0, 534, .inl (m_save f k pa)))]] : List va_W) H := hW
            refine lv_aload_n hx hb dX9_barge_111 rfl (lv_at hl 0 rfl) ?_
            refine z_get X (hW.H.at 0 0 rfl rfl) zF_RX9_7_12 rfl dX9_barge_112 ?_
            refine lv_bipush (v := 6) hx hb dX9_barge_115 (by decide) ?_
            refine z_iald X (j := 6) (hW.H.at 1 0 rfl rfl) rfl (by omega) (by decide) dX9_barge_117 ?_
            refine z_stk (b := [.int (nI (n + 1))]) (by rw [show ((upd (upd c (26 + (7 * n)) q) 6 (nI (n + 1))) 6) = nI (n + 1) from upd_s]) ?_
            refine lv_iconst (v := 1) hx hb dX9_barge_118 rfl ?_
            refine lv_isub hx hb dX9_barge_119 ?_
            refine z_stk (b := [.int (nI n)]) (by rw [show ((nI (n + 1)) - 1) = nI n from nI_sub (a := n + 1) (b := 1) (by omega)]) ?_
            refine zWR.iret X hAe hW hS hr hlocks ?_ (Nat.le_of_ble_eq_true rfl) (Nat.le_of_ble_eq_true rfl) dX9_barge_120
            rw [m_new, ← show j = 7 by omega, ← hc]
            exact ⟨rfl, rfl⟩
          · skip
            have kc61_2 := mt (zn_le (a := 7) (b := j) rfl rfl (by omega) (by omega)).mpr c61_2
            refine lv_aload_n hx hb dX9_barge_64 rfl (lv_at hl 0 rfl) ?_
            refine z_get X (hW.H.at 0 0 rfl rfl) zF_RX9_7_12 rfl dX9_barge_65 ?_
            refine lv_iload_n hx hb dX9_barge_68 rfl (lv_at hl 2 rfl) ?_
            refine lv_iload_n hx hb dX9_barge_69 rfl (lv_at hl 3 rfl) ?_
            refine lv_iadd hx hb dX9_barge_70 ?_
            refine lv_iload_n hx hb dX9_barge_71 rfl (lv_at hl 3 rfl) ?_
            refine lv_iconst (v := 3) hx hb dX9_barge_72 rfl ?_
            refine lv_icmp_eq (tgt := 81) hx hb dX9_barge_73 (by decide) (fun c73_3 => ?_) (fun c73_3 => ?_)
            · skip
              have kc73_3 := (zn_eq (a := j) (b := 3) rfl rfl (by omega) (by omega)).mp c73_3
              refine lv_iconst (v := (-1)) hx hb dX9_barge_81 rfl ?_
              refine lv_goto (tgt := 86) hx hb dX9_barge_82 (by decide) ?_
              refine z_iast X (j := (26 + (7 * n)) + j) hW hS 1 0 rfl rfl (zx_add (zx_add rfl (zx_mul rfl rfl)) rfl) (by omega) (by decide) dX9_barge_86 (fun H locs hW hS => ?_)
              have hW : zW g A ([[(x, .inr (12, [.ref a0, .ref a1, .ref a2, .int (nI (m_sk k + 1)), .ref a3, .ref a4, .ref a5, .int (nI ty), .int 0, .int (nI at_), .int (zb bF), .int val, .ref a6, .int (nI tl), .int (zb bC)]))], [(a0, .inl (g.2.1 0, 89, .inl (upd c ((26 + (7 * n)) + j) (-1))))], [(a2, .inl (g.2.1 0, 534, .inl (m_save f k pa)))]] : List va_W) H := hW
              refine lv_iinc (v := nI (j + 1)) (lv' := [(3, .int (nI (j + 1))), (0, .ref x), (1, .int q), (2, .int (26 + (7 * nI n)))]) hx hb dX9_barge_87 hl (k := 3) rfl (zx_add rfl rfl) (by decide) rfl (fun ls hl => ?_)
              have hls := hl.1
              refine lv_goto (tgt := 58) hx hb dX9_barge_90 (by decide) ?_
              exact ih58 (j + 1) (by omega) (by omega) _ (by rw [hc]; show _ = upd _ _ (if j = 3 ∨ j = 5 then -1 else 0); first | rw [if_pos (by omega)] | rw [if_neg (by omega)]) _ _ hW hS _ (lv_sub hl [1, 2, 3, 0] rfl)
            · skip
              have kc73_3 := mt (zn_eq (a := j) (b := 3) rfl rfl (by omega) (by omega)).mpr c73_3
              refine lv_iload_n hx hb dX9_barge_76 rfl (lv_at hl 3 rfl) ?_
              refine lv_iconst (v := 5) hx hb dX9_barge_77 rfl ?_
              refine lv_icmp_ne (tgt := 85) hx hb dX9_barge_78 (by decide) (fun c78_4 => ?_) (fun c78_4 => ?_)
              · skip
                have kc78_4 := mt (zn_eq (a := j) (b := 5) rfl rfl (by omega) (by omega)).mpr c78_4
                refine lv_iconst (v := 0) hx hb dX9_barge_85 rfl ?_
                refine z_iast X (j := (26 + (7 * n)) + j) hW hS 1 0 rfl rfl (zx_add (zx_add rfl (zx_mul rfl rfl)) rfl) (by omega) (by decide) dX9_barge_86 (fun H locs hW hS => ?_)
                have hW : zW g A ([[(x, .inr (12, [.ref a0, .ref a1, .ref a2, .int (nI (m_sk k + 1)), .ref a3, .ref a4, .ref a5, .int (nI ty), .int 0, .int (nI at_), .int (zb bF), .int val, .ref a6, .int (nI tl), .int (zb bC)]))], [(a0, .inl (g.2.1 0, 89, .inl (upd c ((26 + (7 * n)) + j) 0)))], [(a2, .inl (g.2.1 0, 534, .inl (m_save f k pa)))]] : List va_W) H := hW
                refine lv_iinc (v := nI (j + 1)) (lv' := [(3, .int (nI (j + 1))), (0, .ref x), (1, .int q), (2, .int (26 + (7 * nI n)))]) hx hb dX9_barge_87 hl (k := 3) rfl (zx_add rfl rfl) (by decide) rfl (fun ls hl => ?_)
                have hls := hl.1
                refine lv_goto (tgt := 58) hx hb dX9_barge_90 (by decide) ?_
                exact ih58 (j + 1) (by omega) (by omega) _ (by rw [hc]; show _ = upd _ _ (if j = 3 ∨ j = 5 then -1 else 0); first | rw [if_pos (by omega)] | rw [if_neg (by omega)]) _ _ hW hS _ (lv_sub hl [1, 2, 3, 0] rfl)
              · skip
                have kc78_4 := (zn_eq (a := j) (b := 5) rfl rfl (by omega) (by omega)).mp c78_4
                refine lv_iconst (v := (-1)) hx hb dX9_barge_81 rfl ?_
                refine lv_goto (tgt := 86) hx hb dX9_barge_82 (by decide) ?_
                refine z_iast X (j := (26 + (7 * n)) + j) hW hS 1 0 rfl rfl (zx_add (zx_add rfl (zx_mul rfl rfl)) rfl) (by omega) (by decide) dX9_barge_86 (fun H locs hW hS => ?_)
                have hW : zW g A ([[(x, .inr (12, [.ref a0, .ref a1, .ref a2, .int (nI (m_sk k + 1)), .ref a3, .ref a4, .ref a5, .int (nI ty), .int 0, .int (nI at_), .int (zb bF), .int val, .ref a6, .int (nI tl), .int (zb bC)]))], [(a0, .inl (g.2.1 0, 89, .inl (upd c ((26 + (7 * n)) + j) (-1))))], [(a2, .inl (g.2.1 0, 534, .inl (m_save f k pa)))]] : List va_W) H := hW
                refine lv_iinc (v := nI (j + 1)) (lv' := [(3, .int (nI (j + 1))), (0, .ref x), (1, .int q), (2, .int (26 + (7 * nI n)))]) hx hb dX9_barge_87 hl (k := 3) rfl (zx_add rfl rfl) (by decide) rfl (fun ls hl => ?_)
                have hls := hl.1
                refine lv_goto (tgt := 58) hx hb dX9_barge_90 (by decide) ?_
                exact ih58 (j + 1) (by omega) (by omega) _ (by rw [hc]; show _ = upd _ _ (if j = 3 ∨ j = 5 then -1 else 0); first | rw [if_pos (by omega)] | rw [if_neg (by omega)]) _ _ hW hS _ (lv_sub hl [1, 2, 3, 0] rfl)
      exact hj58 (7 + 1) (0) (by omega) (by omega) _ rfl _ _ hW hS _ (lv_sub hl [2, 3, 1, 0] rfl)
    · exact absurd ((zn_eq (a := n) (b := 4) rfl rfl (by omega) (by omega)).mp c29_1) (by omega)
  · exact absurd (hq.symm.trans c12_0) (by decide)

abbrev rm_X9_order_bad1 : Room := { frames := 2, cells := 0, slots := 0, locals := 43 }
set_option maxHeartbeats 4000000 in
set_option maxRecDepth 100000 in
theorem m_X9_order_bad1 (l : Launch) (g : zG) (x a0 a1 a2 a3 a4 a5 a6 : Nat) (k ty at_ tl : Nat) (thr val : Int32) (bF bC : Bool) (f : Nat → Int32) (b v : Int32) (n : Nat) (h6 : f 6 = nI n) (hbad : m_in b 0 (nI n - 1) = false) (sz : Nat) : zWR l yX9_order cX9_order 3 (Option.some Jvm.ClassFile.FieldType.int) rm_X9_order_bad1 g [.ref x, .int b, .int v] ([[(x, .inr (12, [.ref a0, .ref a1, .ref a2, .int (nI k), .ref a3, .ref a4, .ref a5, .int (nI ty), .int thr, .int (nI at_), .int (zb bF), .int val, .ref a6, .int (nI tl), .int (zb bC)]))], [(a0, .inl (g.2.1 0, 89, .inl f))]] : List va_W) 0 0 sz (fun zv gs' => zv = some (.int (0)) ∧ gs' = [[(x, .inr (12, [.ref a0, .ref a1, .ref a2, .int (nI k), .ref a3, .ref a4, .ref a5, .int (nI ty), .int 1, .int (nI at_), .int (zb bF), .int val, .ref a6, .int (nI tl), .int (zb bC)]))], [(a0, .inl (g.2.1 0, 89, .inl f))]]) := by
  refine zWR.start (by decide) (Nat.le_of_ble_eq_true rfl) ?_
  intro zp ze s zm zbl zmt zc ls A X hr hlocks hinn hl hAe hW hS hA hA0
  have hx := X.1
  have hb := X.2.1
  have hml := X.2.2.1
  have hown := X.2.2.2.1
  have hls := hl.1
  have hl : lv_has ls 3 [(0, .ref x), (1, .int b), (2, .int v)] := hl
  refine lv_aload_n hx hb dX9_order_0 rfl (lv_at hl 0 rfl) ?_
  refine lv_iconst (v := 0) hx hb dX9_order_1 rfl ?_
  refine z_put X hW hS 0 0 rfl rfl zP_RX9_32_12 rfl rfl (Nat.le_of_ble_eq_true rfl) dX9_order_2 (fun H locs hW hS => ?_)
  have hW : zW g A ([[(x, .inr (12, [.ref a0, .ref a1, .ref a2, .int (nI k), .ref a3, .ref a4, .ref a5, .int (nI ty), .int 0, .int (nI at_), .int (zb bF), .int val, .ref a6, .int (nI tl), .int (zb bC)]))], [(a0, .inl (g.2.1 0, 89, .inl f))]] : List va_W) H := hW
  refine lv_aload_n hx hb dX9_order_5 rfl (lv_at hl 0 rfl) ?_
  refine lv_iload_n hx hb dX9_order_6 rfl (lv_at hl 1 rfl) ?_
  refine zc_ro (zr_V (As := [.int b]) (rest := []) X (m_X9_isBarge l g x a0 a1 a2 a3 a4 a5 a6 k ty at_ tl 0 val bF bC f b n (by first | exact h6c | exact h6 | (simp (disch := omega) only [upd_n]; first | exact h6c | exact h6))) zL_RX9_118 (ci := 12) rfl (hW.H.at 0 0 rfl rfl) (zH.cons (va_P.one (hW.H.at 0 0 rfl rfl)) (zH.cons (va_P.one (hW.H.at 1 0 rfl rfl)) zH.nil)) hS hA0 hls rfl (Nat.le_of_ble_eq_true rfl) ⟨rfl, rfl, Nat.le_of_ble_eq_true rfl, Nat.le_of_ble_eq_true rfl, (Nat.le_of_ble_eq_true rfl), (Nat.le_of_ble_eq_true rfl)⟩ dX9_order_7) ?_
  refine zb_ifne (tgt := 19) hx hb dX9_order_10 (by decide) (fun c10_0 => ?_) (fun c10_0 => ?_)
  · exact absurd (hbad.symm.trans c10_0) (by decide)
  · skip
    refine lv_aload_n hx hb dX9_order_13 rfl (lv_at hl 0 rfl) ?_
    refine lv_iconst (v := 1) hx hb dX9_order_14 rfl ?_
    refine zc_wr (gc := [[(x, .inr (12, [.ref a0, .ref a1, .ref a2, .int (nI k), .ref a3, .ref a4, .ref a5, .int (nI ty), .int 0, .int (nI at_), .int (zb bF), .int val, .ref a6, .int (nI tl), .int (zb bC)]))]]) (gr := [[(a0, .inl (g.2.1 0, 89, .inl f))]]) (zr_V (As := [.int 1]) (rest := []) X (m_X9_fails l g x a0 a1 a2 a3 a4 a5 a6 k ty at_ tl 0 val bF bC 1 _) zL_RX9_47 (ci := 12) rfl (hW.H.at 0 0 rfl rfl) (zW.pre (gc := [[(x, .inr (12, [.ref a0, .ref a1, .ref a2, .int (nI k), .ref a3, .ref a4, .ref a5, .int (nI ty), .int 0, .int (nI at_), .int (zb bF), .int val, .ref a6, .int (nI tl), .int (zb bC)]))]]) (gr := [[(a0, .inl (g.2.1 0, 89, .inl f))]]) hW hA0) hS hA0 hls rfl (Nat.le_of_ble_eq_true rfl) ⟨rfl, rfl, Nat.le_of_ble_eq_true rfl, Nat.le_of_ble_eq_true rfl, (Nat.le_of_ble_eq_true rfl), (Nat.le_of_ble_eq_true rfl)⟩ dX9_order_15) hW hS hA (fun v gc' H locs hpost hW hS => ?_)
    obtain ⟨rfl, rfl⟩ := hpost
    have hW : zW g A ([[(x, .inr (12, [.ref a0, .ref a1, .ref a2, .int (nI k), .ref a3, .ref a4, .ref a5, .int (nI ty), .int 1, .int (nI at_), .int (zb bF), .int val, .ref a6, .int (nI tl), .int (zb bC)]))], [(a0, .inl (g.2.1 0, 89, .inl f))]] : List va_W) H := hW
    refine W.eq (g2 := F0 zm 18 ls [.int 0]) rfl ?_
    refine zWR.iret X hAe hW hS hr hlocks ?_ (Nat.le_of_ble_eq_true rfl) (Nat.le_of_ble_eq_true rfl) dX9_order_18
    exact ⟨rfl, rfl⟩

abbrev rm_X9_order_bad2 : Room := { frames := 2, cells := 0, slots := 0, locals := 43 }
set_option maxHeartbeats 4000000 in
set_option maxRecDepth 100000 in
theorem m_X9_order_bad2 (l : Launch) (g : zG) (x a0 a1 a2 a3 a4 a5 a6 : Nat) (k ty at_ tl : Nat) (thr val : Int32) (bF bC : Bool) (f : Nat → Int32) (b : Nat) (v : Int32) (n : Nat) (hn : n ≤ 4) (h6 : f 6 = nI n) (hb4 : b < n) (hbad : m_in v (-1) 4 = false) (sz : Nat) : zWR l yX9_order cX9_order 3 (Option.some Jvm.ClassFile.FieldType.int) rm_X9_order_bad2 g [.ref x, .int (nI b), .int v] ([[(x, .inr (12, [.ref a0, .ref a1, .ref a2, .int (nI k), .ref a3, .ref a4, .ref a5, .int (nI ty), .int thr, .int (nI at_), .int (zb bF), .int val, .ref a6, .int (nI tl), .int (zb bC)]))], [(a0, .inl (g.2.1 0, 89, .inl f))]] : List va_W) 0 0 sz (fun zv gs' => zv = some (.int (0)) ∧ gs' = [[(x, .inr (12, [.ref a0, .ref a1, .ref a2, .int (nI k), .ref a3, .ref a4, .ref a5, .int (nI ty), .int 2, .int (nI at_), .int (zb bF), .int val, .ref a6, .int (nI tl), .int (zb bC)]))], [(a0, .inl (g.2.1 0, 89, .inl f))]]) := by
  refine zWR.start (by decide) (Nat.le_of_ble_eq_true rfl) ?_
  intro zp ze s zm zbl zmt zc ls A X hr hlocks hinn hl hAe hW hS hA hA0
  have hx := X.1
  have hb := X.2.1
  have hml := X.2.2.1
  have hown := X.2.2.2.1
  have hls := hl.1
  have hl : lv_has ls 3 [(0, .ref x), (1, .int (nI b)), (2, .int v)] := hl
  refine lv_aload_n hx hb dX9_order_0 rfl (lv_at hl 0 rfl) ?_
  refine lv_iconst (v := 0) hx hb dX9_order_1 rfl ?_
  refine z_put X hW hS 0 0 rfl rfl zP_RX9_32_12 rfl rfl (Nat.le_of_ble_eq_true rfl) dX9_order_2 (fun H locs hW hS => ?_)
  have hW : zW g A ([[(x, .inr (12, [.ref a0, .ref a1, .ref a2, .int (nI k), .ref a3, .ref a4, .ref a5, .int (nI ty), .int 0, .int (nI at_), .int (zb bF), .int val, .ref a6, .int (nI tl), .int (zb bC)]))], [(a0, .inl (g.2.1 0, 89, .inl f))]] : List va_W) H := hW
  refine lv_aload_n hx hb dX9_order_5 rfl (lv_at hl 0 rfl) ?_
  refine lv_iload_n hx hb dX9_order_6 rfl (lv_at hl 1 rfl) ?_
  refine zc_ro (zr_V (As := [.int (nI b)]) (rest := []) X (m_X9_isBarge l g x a0 a1 a2 a3 a4 a5 a6 k ty at_ tl 0 val bF bC f (nI b) n (by first | exact h6c | exact h6 | (simp (disch := omega) only [upd_n]; first | exact h6c | exact h6))) zL_RX9_118 (ci := 12) rfl (hW.H.at 0 0 rfl rfl) (zH.cons (va_P.one (hW.H.at 0 0 rfl rfl)) (zH.cons (va_P.one (hW.H.at 1 0 rfl rfl)) zH.nil)) hS hA0 hls rfl (Nat.le_of_ble_eq_true rfl) ⟨rfl, rfl, Nat.le_of_ble_eq_true rfl, Nat.le_of_ble_eq_true rfl, (Nat.le_of_ble_eq_true rfl), (Nat.le_of_ble_eq_true rfl)⟩ dX9_order_7) ?_
  refine zb_ifne (tgt := 19) hx hb dX9_order_10 (by decide) (fun c10_0 => ?_) (fun c10_0 => ?_)
  · skip
    refine lv_iload_n hx hb dX9_order_19 rfl (lv_at hl 2 rfl) ?_
    refine lv_iconst (v := (-1)) hx hb dX9_order_20 rfl ?_
    refine lv_iconst (v := 4) hx hb dX9_order_21 rfl ?_
    refine zc_ro (zr_S (As := [.int v, .int (-1), .int 4]) (rest := []) X (m_X9_in l g v (-1) 4) zL_RX9_36 trivial hS hA0 hls rfl (Nat.le_of_ble_eq_true rfl) ⟨rfl, rfl, Nat.le_of_ble_eq_true rfl, Nat.le_of_ble_eq_true rfl, (Nat.le_of_ble_eq_true rfl), (Nat.le_of_ble_eq_true rfl)⟩ dX9_order_22) ?_
    refine zb_ifne (tgt := 34) hx hb dX9_order_25 (by decide) (fun c25_1 => ?_) (fun c25_1 => ?_)
    · exact absurd (hbad.symm.trans c25_1) (by decide)
    · skip
      refine lv_aload_n hx hb dX9_order_28 rfl (lv_at hl 0 rfl) ?_
      refine lv_iconst (v := 2) hx hb dX9_order_29 rfl ?_
      refine zc_wr (gc := [[(x, .inr (12, [.ref a0, .ref a1, .ref a2, .int (nI k), .ref a3, .ref a4, .ref a5, .int (nI ty), .int 0, .int (nI at_), .int (zb bF), .int val, .ref a6, .int (nI tl), .int (zb bC)]))]]) (gr := [[(a0, .inl (g.2.1 0, 89, .inl f))]]) (zr_V (As := [.int 2]) (rest := []) X (m_X9_fails l g x a0 a1 a2 a3 a4 a5 a6 k ty at_ tl 0 val bF bC 2 _) zL_RX9_47 (ci := 12) rfl (hW.H.at 0 0 rfl rfl) (zW.pre (gc := [[(x, .inr (12, [.ref a0, .ref a1, .ref a2, .int (nI k), .ref a3, .ref a4, .ref a5, .int (nI ty), .int 0, .int (nI at_), .int (zb bF), .int val, .ref a6, .int (nI tl), .int (zb bC)]))]]) (gr := [[(a0, .inl (g.2.1 0, 89, .inl f))]]) hW hA0) hS hA0 hls rfl (Nat.le_of_ble_eq_true rfl) ⟨rfl, rfl, Nat.le_of_ble_eq_true rfl, Nat.le_of_ble_eq_true rfl, (Nat.le_of_ble_eq_true rfl), (Nat.le_of_ble_eq_true rfl)⟩ dX9_order_30) hW hS hA (fun v gc' H locs hpost hW hS => ?_)
      obtain ⟨rfl, rfl⟩ := hpost
      have hW : zW g A ([[(x, .inr (12, [.ref a0, .ref a1, .ref a2, .int (nI k), .ref a3, .ref a4, .ref a5, .int (nI ty), .int 2, .int (nI at_), .int (zb bF), .int val, .ref a6, .int (nI tl), .int (zb bC)]))], [(a0, .inl (g.2.1 0, 89, .inl f))]] : List va_W) H := hW
      refine W.eq (g2 := F0 zm 33 ls [.int 0]) rfl ?_
      refine zWR.iret X hAe hW hS hr hlocks ?_ (Nat.le_of_ble_eq_true rfl) (Nat.le_of_ble_eq_true rfl) dX9_order_33
      exact ⟨rfl, rfl⟩
  · exact absurd ((m_in_T (a := 0) (b := n - 1) rfl rfl (nI_sub (b := 1) (by omega)) (by omega) (by omega) (by omega)).symm.trans c10_0) (by decide)

abbrev rm_X9_order_ok : Room := { frames := 2, cells := 0, slots := 0, locals := 45 }
set_option maxHeartbeats 4000000 in
set_option maxRecDepth 100000 in
theorem m_X9_order_ok (l : Launch) (g : zG) (x a0 a1 a2 a3 a4 a5 a6 : Nat) (k ty at_ tl : Nat) (thr val : Int32) (bF bC : Bool) (f pa : Nat → Int32) (b : Nat) (v : Int32) (n : Nat) (hn : n ≤ 4) (h6 : f 6 = nI n) (hb4 : b < n) (hv : m_in v (-1) 4 = true) (hk : k ≤ 6) (sz : Nat) : zWR l yX9_order cX9_order 3 (Option.some Jvm.ClassFile.FieldType.int) rm_X9_order_ok g [.ref x, .int (nI b), .int v] ([[(x, .inr (12, [.ref a0, .ref a1, .ref a2, .int (nI k), .ref a3, .ref a4, .ref a5, .int (nI ty), .int thr, .int (nI at_), .int (zb bF), .int val, .ref a6, .int (nI tl), .int (zb bC)]))], [(a0, .inl (g.2.1 0, 89, .inl f))], [(a2, .inl (g.2.1 0, 534, .inl pa))]] : List va_W) 0 0 sz (fun zv gs' => zv = some (.int (f (26 + 7 * b + 5))) ∧ gs' = [[(x, .inr (12, [.ref a0, .ref a1, .ref a2, .int (nI (m_sk k + 1)), .ref a3, .ref a4, .ref a5, .int (nI ty), .int 0, .int (nI at_), .int (zb bF), .int val, .ref a6, .int (nI tl), .int (zb bC)]))], [(a0, .inl (g.2.1 0, 89, .inl (upd f (26 + 7 * b + 5) v)))], [(a2, .inl (g.2.1 0, 534, .inl (m_save f k pa)))]]) := by
  refine zWR.start (by decide) (Nat.le_of_ble_eq_true rfl) ?_
  intro zp ze s zm zbl zmt zc ls A X hr hlocks hinn hl hAe hW hS hA hA0
  have hx := X.1
  have hb := X.2.1
  have hml := X.2.2.1
  have hown := X.2.2.2.1
  have hls := hl.1
  have hl : lv_has ls 3 [(0, .ref x), (1, .int (nI b)), (2, .int v)] := hl
  refine lv_aload_n hx hb dX9_order_0 rfl (lv_at hl 0 rfl) ?_
  refine lv_iconst (v := 0) hx hb dX9_order_1 rfl ?_
  refine z_put X hW hS 0 0 rfl rfl zP_RX9_32_12 rfl rfl (Nat.le_of_ble_eq_true rfl) dX9_order_2 (fun H locs hW hS => ?_)
  have hW : zW g A ([[(x, .inr (12, [.ref a0, .ref a1, .ref a2, .int (nI k), .ref a3, .ref a4, .ref a5, .int (nI ty), .int 0, .int (nI at_), .int (zb bF), .int val, .ref a6, .int (nI tl), .int (zb bC)]))], [(a0, .inl (g.2.1 0, 89, .inl f))], [(a2, .inl (g.2.1 0, 534, .inl pa))]] : List va_W) H := hW
  refine lv_aload_n hx hb dX9_order_5 rfl (lv_at hl 0 rfl) ?_
  refine lv_iload_n hx hb dX9_order_6 rfl (lv_at hl 1 rfl) ?_
  refine zc_ro (zr_V (As := [.int (nI b)]) (rest := []) X (m_X9_isBarge l g x a0 a1 a2 a3 a4 a5 a6 k ty at_ tl 0 val bF bC f (nI b) n (by first | exact h6c | exact h6 | (simp (disch := omega) only [upd_n]; first | exact h6c | exact h6))) zL_RX9_118 (ci := 12) rfl (hW.H.at 0 0 rfl rfl) (zH.cons (va_P.one (hW.H.at 0 0 rfl rfl)) (zH.cons (va_P.one (hW.H.at 1 0 rfl rfl)) zH.nil)) hS hA0 hls rfl (Nat.le_of_ble_eq_true rfl) ⟨rfl, rfl, Nat.le_of_ble_eq_true rfl, Nat.le_of_ble_eq_true rfl, (Nat.le_of_ble_eq_true rfl), (Nat.le_of_ble_eq_true rfl)⟩ dX9_order_7) ?_
  refine zb_ifne (tgt := 19) hx hb dX9_order_10 (by decide) (fun c10_0 => ?_) (fun c10_0 => ?_)
  · skip
    refine lv_iload_n hx hb dX9_order_19 rfl (lv_at hl 2 rfl) ?_
    refine lv_iconst (v := (-1)) hx hb dX9_order_20 rfl ?_
    refine lv_iconst (v := 4) hx hb dX9_order_21 rfl ?_
    refine zc_ro (zr_S (As := [.int v, .int (-1), .int 4]) (rest := []) X (m_X9_in l g v (-1) 4) zL_RX9_36 trivial hS hA0 hls rfl (Nat.le_of_ble_eq_true rfl) ⟨rfl, rfl, Nat.le_of_ble_eq_true rfl, Nat.le_of_ble_eq_true rfl, (Nat.le_of_ble_eq_true rfl), (Nat.le_of_ble_eq_true rfl)⟩ dX9_order_22) ?_
    refine zb_ifne (tgt := 34) hx hb dX9_order_25 (by decide) (fun c25_1 => ?_) (fun c25_1 => ?_)
    · skip
      refine lv_aload_n hx hb dX9_order_34 rfl (lv_at hl 0 rfl) ?_
      refine zc_wr (gc := [[(x, .inr (12, [.ref a0, .ref a1, .ref a2, .int (nI k), .ref a3, .ref a4, .ref a5, .int (nI ty), .int 0, .int (nI at_), .int (zb bF), .int val, .ref a6, .int (nI tl), .int (zb bC)]))], [(a0, .inl (g.2.1 0, 89, .inl f))], [(a2, .inl (g.2.1 0, 534, .inl pa))]]) (gr := []) (zr_V (As := []) (rest := []) X (m_X9_saves l g x a0 a1 a2 a3 a4 a5 a6 k ty at_ tl 0 val bF bC f pa hk _) zL_RX9_51 (ci := 12) rfl (hW.H.at 0 0 rfl rfl) (zW.pre (gc := [[(x, .inr (12, [.ref a0, .ref a1, .ref a2, .int (nI k), .ref a3, .ref a4, .ref a5, .int (nI ty), .int 0, .int (nI at_), .int (zb bF), .int val, .ref a6, .int (nI tl), .int (zb bC)]))], [(a0, .inl (g.2.1 0, 89, .inl f))], [(a2, .inl (g.2.1 0, 534, .inl pa))]]) (gr := []) hW hA0) hS hA0 hls rfl (Nat.le_of_ble_eq_true rfl) ⟨rfl, rfl, Nat.le_of_ble_eq_true rfl, Nat.le_of_ble_eq_true rfl, (Nat.le_of_ble_eq_true rfl), (Nat.le_of_ble_eq_true rfl)⟩ dX9_order_35) hW hS hA (fun v gc' H locs hpost hW hS => ?_)
      obtain ⟨rfl, rfl⟩ := hpost
      have hW : zW g A ([[(x, .inr (12, [.ref a0, .ref a1, .ref a2, .int (nI (m_sk k + 1)), .ref a3, .ref a4, .ref a5, .int (nI ty), .int 0, .int (nI at_), .int (zb bF), .int val, .ref a6, .int (nI tl), .int (zb bC)]))], [(a0, .inl (g.2.1 0, 89, .inl f))], [(a2, .inl (g.2.1 0, 534, .inl (m_save f k pa)))]] : List va_W) H := hW
      refine W.eq (g2 := F0 zm 38 ls []) rfl ?_
      refine lv_aload_n hx hb dX9_order_38 rfl (lv_at hl 0 rfl) ?_
      refine lv_bipush (v := 26) hx hb dX9_order_39 (by decide) ?_
      refine lv_bipush (v := 7) hx hb dX9_order_41 (by decide) ?_
      refine lv_iload_n hx hb dX9_order_43 rfl (lv_at hl 1 rfl) ?_
      refine lv_imul hx hb dX9_order_44 ?_
      refine lv_iadd hx hb dX9_order_45 ?_
      refine lv_iconst (v := 5) hx hb dX9_order_46 rfl ?_
      refine lv_iadd hx hb dX9_order_47 ?_
      refine lv_iload_n hx hb dX9_order_48 rfl (lv_at hl 2 rfl) ?_
      refine z_stk (b := [.int v, .int (nI ((26 + (7 * b)) + 5)), .ref x]) (by rw [show ((26 + (7 * (nI b))) + 5) = nI ((26 + (7 * b)) + 5) from zx_add (zx_add rfl (zx_mul rfl rfl)) rfl]) ?_
      refine zc_wr (gc := [[(x, .inr (12, [.ref a0, .ref a1, .ref a2, .int (nI (m_sk k + 1)), .ref a3, .ref a4, .ref a5, .int (nI ty), .int 0, .int (nI at_), .int (zb bF), .int val, .ref a6, .int (nI tl), .int (zb bC)]))], [(a0, .inl (g.2.1 0, 89, .inl f))]]) (gr := [[(a2, .inl (g.2.1 0, 534, .inl (m_save f k pa)))]]) (zr_V (As := [.int (nI ((26 + (7 * b)) + 5)), .int v]) (rest := []) X (m_X9_changes l g x a0 a1 a2 a3 a4 a5 a6 (m_sk k + 1) ty at_ tl 0 val bF bC f ((26 + (7 * b)) + 5) v (by omega) _) zL_RX9_122 (ci := 12) rfl (hW.H.at 0 0 rfl rfl) (zW.pre (gc := [[(x, .inr (12, [.ref a0, .ref a1, .ref a2, .int (nI (m_sk k + 1)), .ref a3, .ref a4, .ref a5, .int (nI ty), .int 0, .int (nI at_), .int (zb bF), .int val, .ref a6, .int (nI tl), .int (zb bC)]))], [(a0, .inl (g.2.1 0, 89, .inl f))]]) (gr := [[(a2, .inl (g.2.1 0, 534, .inl (m_save f k pa)))]]) hW hA0) hS hA0 hls rfl (Nat.le_of_ble_eq_true rfl) ⟨rfl, rfl, Nat.le_of_ble_eq_true rfl, Nat.le_of_ble_eq_true rfl, (Nat.le_of_ble_eq_true rfl), (Nat.le_of_ble_eq_true rfl)⟩ dX9_order_49) hW hS hA (fun v gc' H locs hpost hW hS => ?_)
      obtain ⟨rfl, rfl⟩ := hpost
      have hW : zW g A ([[(x, .inr (12, [.ref a0, .ref a1, .ref a2, .int (nI (m_sk k + 1)), .ref a3, .ref a4, .ref a5, .int (nI ty), .int 0, .int (nI at_), .int (zb bF), .int val, .ref a6, .int (nI tl), .int (zb bC)]))], [(a0, .inl (g.2.1 0, 89, .inl (upd f ((26 + (7 * b)) + 5) v)))], [(a2, .inl (g.2.1 0, 534, .inl (m_save f k pa)))]] : List va_W) H := hW
      refine W.eq (g2 := F0 zm 52 ls [.int (f ((26 + (7 * b)) + 5))]) rfl ?_
      refine zWR.iret X hAe hW hS hr hlocks ?_ (Nat.le_of_ble_eq_true rfl) (Nat.le_of_ble_eq_true rfl) dX9_order_52
      exact ⟨rfl, rfl⟩
    · exact absurd (hv.symm.trans c25_1) (by decide)
  · exact absurd ((m_in_T (a := 0) (b := n - 1) rfl rfl (nI_sub (b := 1) (by omega)) (by omega) (by omega) (by omega)).symm.trans c10_0) (by decide)

abbrev rm_X9_move_bad : Room := { frames := 2, cells := 0, slots := 0, locals := 42 }
set_option maxHeartbeats 4000000 in
set_option maxRecDepth 100000 in
theorem m_X9_move_bad (l : Launch) (g : zG) (x a0 a1 a2 a3 a4 a5 a6 : Nat) (k ty at_ tl : Nat) (thr val : Int32) (bF bC : Bool) (q : Int32) (hbad : m_in q 0 5 = false) (sz : Nat) : zWR l yX9_move cX9_move 2 (Option.some Jvm.ClassFile.FieldType.int) rm_X9_move_bad g [.ref x, .int q] ([[(x, .inr (12, [.ref a0, .ref a1, .ref a2, .int (nI k), .ref a3, .ref a4, .ref a5, .int (nI ty), .int thr, .int (nI at_), .int (zb bF), .int val, .ref a6, .int (nI tl), .int (zb bC)]))]] : List va_W) 0 0 sz (fun zv gs' => zv = some (.int (0)) ∧ gs' = [[(x, .inr (12, [.ref a0, .ref a1, .ref a2, .int (nI k), .ref a3, .ref a4, .ref a5, .int (nI ty), .int 1, .int (nI at_), .int (zb bF), .int val, .ref a6, .int (nI tl), .int (zb bC)]))]]) := by
  refine zWR.start (by decide) (Nat.le_of_ble_eq_true rfl) ?_
  intro zp ze s zm zbl zmt zc ls A X hr hlocks hinn hl hAe hW hS hA hA0
  have hx := X.1
  have hb := X.2.1
  have hml := X.2.2.1
  have hown := X.2.2.2.1
  have hls := hl.1
  have hl : lv_has ls 2 [(0, .ref x), (1, .int q)] := hl
  refine lv_aload_n hx hb dX9_move_0 rfl (lv_at hl 0 rfl) ?_
  refine lv_iconst (v := 0) hx hb dX9_move_1 rfl ?_
  refine z_put X hW hS 0 0 rfl rfl zP_RX9_32_12 rfl rfl (Nat.le_of_ble_eq_true rfl) dX9_move_2 (fun H locs hW hS => ?_)
  have hW : zW g A ([[(x, .inr (12, [.ref a0, .ref a1, .ref a2, .int (nI k), .ref a3, .ref a4, .ref a5, .int (nI ty), .int 0, .int (nI at_), .int (zb bF), .int val, .ref a6, .int (nI tl), .int (zb bC)]))]] : List va_W) H := hW
  refine lv_iload_n hx hb dX9_move_5 rfl (lv_at hl 1 rfl) ?_
  refine zc_ro (zr_S (As := [.int q]) (rest := []) X (m_X9_isReach l g q) zL_RX9_126 trivial hS hA0 hls rfl (Nat.le_of_ble_eq_true rfl) ⟨rfl, rfl, Nat.le_of_ble_eq_true rfl, Nat.le_of_ble_eq_true rfl, (Nat.le_of_ble_eq_true rfl), (Nat.le_of_ble_eq_true rfl)⟩ dX9_move_6) ?_
  refine zb_ifne (tgt := 18) hx hb dX9_move_9 (by decide) (fun c9_0 => ?_) (fun c9_0 => ?_)
  · exact absurd (hbad.symm.trans c9_0) (by decide)
  · skip
    refine lv_aload_n hx hb dX9_move_12 rfl (lv_at hl 0 rfl) ?_
    refine lv_iconst (v := 1) hx hb dX9_move_13 rfl ?_
    refine zc_wr (gc := [[(x, .inr (12, [.ref a0, .ref a1, .ref a2, .int (nI k), .ref a3, .ref a4, .ref a5, .int (nI ty), .int 0, .int (nI at_), .int (zb bF), .int val, .ref a6, .int (nI tl), .int (zb bC)]))]]) (gr := []) (zr_V (As := [.int 1]) (rest := []) X (m_X9_fails l g x a0 a1 a2 a3 a4 a5 a6 k ty at_ tl 0 val bF bC 1 _) zL_RX9_47 (ci := 12) rfl (hW.H.at 0 0 rfl rfl) (zW.pre (gc := [[(x, .inr (12, [.ref a0, .ref a1, .ref a2, .int (nI k), .ref a3, .ref a4, .ref a5, .int (nI ty), .int 0, .int (nI at_), .int (zb bF), .int val, .ref a6, .int (nI tl), .int (zb bC)]))]]) (gr := []) hW hA0) hS hA0 hls rfl (Nat.le_of_ble_eq_true rfl) ⟨rfl, rfl, Nat.le_of_ble_eq_true rfl, Nat.le_of_ble_eq_true rfl, (Nat.le_of_ble_eq_true rfl), (Nat.le_of_ble_eq_true rfl)⟩ dX9_move_14) hW hS hA (fun v gc' H locs hpost hW hS => ?_)
    obtain ⟨rfl, rfl⟩ := hpost
    have hW : zW g A ([[(x, .inr (12, [.ref a0, .ref a1, .ref a2, .int (nI k), .ref a3, .ref a4, .ref a5, .int (nI ty), .int 1, .int (nI at_), .int (zb bF), .int val, .ref a6, .int (nI tl), .int (zb bC)]))]] : List va_W) H := hW
    refine W.eq (g2 := F0 zm 17 ls [.int 0]) rfl ?_
    refine zWR.iret X hAe hW hS hr hlocks ?_ (Nat.le_of_ble_eq_true rfl) (Nat.le_of_ble_eq_true rfl) dX9_move_17
    exact ⟨rfl, rfl⟩

abbrev rm_X9_move_ok : Room := { frames := 2, cells := 0, slots := 0, locals := 45 }
set_option maxHeartbeats 4000000 in
set_option maxRecDepth 100000 in
theorem m_X9_move_ok (l : Launch) (g : zG) (x a0 a1 a2 a3 a4 a5 a6 : Nat) (k ty at_ tl : Nat) (thr val : Int32) (bF bC : Bool) (f pa : Nat → Int32) (q : Nat) (hq : q < 6) (hk : k ≤ 6) (sz : Nat) : zWR l yX9_move cX9_move 2 (Option.some Jvm.ClassFile.FieldType.int) rm_X9_move_ok g [.ref x, .int (nI q)] ([[(x, .inr (12, [.ref a0, .ref a1, .ref a2, .int (nI k), .ref a3, .ref a4, .ref a5, .int (nI ty), .int thr, .int (nI at_), .int (zb bF), .int val, .ref a6, .int (nI tl), .int (zb bC)]))], [(a0, .inl (g.2.1 0, 89, .inl f))], [(a2, .inl (g.2.1 0, 534, .inl pa))]] : List va_W) 0 0 sz (fun zv gs' => zv = some (.int (f 5)) ∧ gs' = [[(x, .inr (12, [.ref a0, .ref a1, .ref a2, .int (nI (m_sk k + 1)), .ref a3, .ref a4, .ref a5, .int (nI ty), .int 0, .int (nI at_), .int (zb bF), .int val, .ref a6, .int (nI tl), .int (zb bC)]))], [(a0, .inl (g.2.1 0, 89, .inl (upd f 5 (nI q))))], [(a2, .inl (g.2.1 0, 534, .inl (m_save f k pa)))]]) := by
  refine zWR.start (by decide) (Nat.le_of_ble_eq_true rfl) ?_
  intro zp ze s zm zbl zmt zc ls A X hr hlocks hinn hl hAe hW hS hA hA0
  have hx := X.1
  have hb := X.2.1
  have hml := X.2.2.1
  have hown := X.2.2.2.1
  have hls := hl.1
  have hl : lv_has ls 2 [(0, .ref x), (1, .int (nI q))] := hl
  refine lv_aload_n hx hb dX9_move_0 rfl (lv_at hl 0 rfl) ?_
  refine lv_iconst (v := 0) hx hb dX9_move_1 rfl ?_
  refine z_put X hW hS 0 0 rfl rfl zP_RX9_32_12 rfl rfl (Nat.le_of_ble_eq_true rfl) dX9_move_2 (fun H locs hW hS => ?_)
  have hW : zW g A ([[(x, .inr (12, [.ref a0, .ref a1, .ref a2, .int (nI k), .ref a3, .ref a4, .ref a5, .int (nI ty), .int 0, .int (nI at_), .int (zb bF), .int val, .ref a6, .int (nI tl), .int (zb bC)]))], [(a0, .inl (g.2.1 0, 89, .inl f))], [(a2, .inl (g.2.1 0, 534, .inl pa))]] : List va_W) H := hW
  refine lv_iload_n hx hb dX9_move_5 rfl (lv_at hl 1 rfl) ?_
  refine zc_ro (zr_S (As := [.int (nI q)]) (rest := []) X (m_X9_isReach l g (nI q)) zL_RX9_126 trivial hS hA0 hls rfl (Nat.le_of_ble_eq_true rfl) ⟨rfl, rfl, Nat.le_of_ble_eq_true rfl, Nat.le_of_ble_eq_true rfl, (Nat.le_of_ble_eq_true rfl), (Nat.le_of_ble_eq_true rfl)⟩ dX9_move_6) ?_
  refine zb_ifne (tgt := 18) hx hb dX9_move_9 (by decide) (fun c9_0 => ?_) (fun c9_0 => ?_)
  · skip
    refine lv_aload_n hx hb dX9_move_18 rfl (lv_at hl 0 rfl) ?_
    refine zc_wr (gc := [[(x, .inr (12, [.ref a0, .ref a1, .ref a2, .int (nI k), .ref a3, .ref a4, .ref a5, .int (nI ty), .int 0, .int (nI at_), .int (zb bF), .int val, .ref a6, .int (nI tl), .int (zb bC)]))], [(a0, .inl (g.2.1 0, 89, .inl f))], [(a2, .inl (g.2.1 0, 534, .inl pa))]]) (gr := []) (zr_V (As := []) (rest := []) X (m_X9_saves l g x a0 a1 a2 a3 a4 a5 a6 k ty at_ tl 0 val bF bC f pa hk _) zL_RX9_51 (ci := 12) rfl (hW.H.at 0 0 rfl rfl) (zW.pre (gc := [[(x, .inr (12, [.ref a0, .ref a1, .ref a2, .int (nI k), .ref a3, .ref a4, .ref a5, .int (nI ty), .int 0, .int (nI at_), .int (zb bF), .int val, .ref a6, .int (nI tl), .int (zb bC)]))], [(a0, .inl (g.2.1 0, 89, .inl f))], [(a2, .inl (g.2.1 0, 534, .inl pa))]]) (gr := []) hW hA0) hS hA0 hls rfl (Nat.le_of_ble_eq_true rfl) ⟨rfl, rfl, Nat.le_of_ble_eq_true rfl, Nat.le_of_ble_eq_true rfl, (Nat.le_of_ble_eq_true rfl), (Nat.le_of_ble_eq_true rfl)⟩ dX9_move_19) hW hS hA (fun v gc' H locs hpost hW hS => ?_)
    obtain ⟨rfl, rfl⟩ := hpost
    have hW : zW g A ([[(x, .inr (12, [.ref a0, .ref a1, .ref a2, .int (nI (m_sk k + 1)), .ref a3, .ref a4, .ref a5, .int (nI ty), .int 0, .int (nI at_), .int (zb bF), .int val, .ref a6, .int (nI tl), .int (zb bC)]))], [(a0, .inl (g.2.1 0, 89, .inl f))], [(a2, .inl (g.2.1 0, 534, .inl (m_save f k pa)))]] : List va_W) H := hW
    refine W.eq (g2 := F0 zm 22 ls []) rfl ?_
    refine lv_aload_n hx hb dX9_move_22 rfl (lv_at hl 0 rfl) ?_
    refine lv_iconst (v := 5) hx hb dX9_move_23 rfl ?_
    refine lv_iload_n hx hb dX9_move_24 rfl (lv_at hl 1 rfl) ?_
    refine zc_wr (gc := [[(x, .inr (12, [.ref a0, .ref a1, .ref a2, .int (nI (m_sk k + 1)), .ref a3, .ref a4, .ref a5, .int (nI ty), .int 0, .int (nI at_), .int (zb bF), .int val, .ref a6, .int (nI tl), .int (zb bC)]))], [(a0, .inl (g.2.1 0, 89, .inl f))]]) (gr := [[(a2, .inl (g.2.1 0, 534, .inl (m_save f k pa)))]]) (zr_V (As := [.int 5, .int (nI q)]) (rest := []) X (m_X9_changes l g x a0 a1 a2 a3 a4 a5 a6 (m_sk k + 1) ty at_ tl 0 val bF bC f 5 (nI q) (by omega) _) zL_RX9_122 (ci := 12) rfl (hW.H.at 0 0 rfl rfl) (zW.pre (gc := [[(x, .inr (12, [.ref a0, .ref a1, .ref a2, .int (nI (m_sk k + 1)), .ref a3, .ref a4, .ref a5, .int (nI ty), .int 0, .int (nI at_), .int (zb bF), .int val, .ref a6, .int (nI tl), .int (zb bC)]))], [(a0, .inl (g.2.1 0, 89, .inl f))]]) (gr := [[(a2, .inl (g.2.1 0, 534, .inl (m_save f k pa)))]]) hW hA0) hS hA0 hls rfl (Nat.le_of_ble_eq_true rfl) ⟨rfl, rfl, Nat.le_of_ble_eq_true rfl, Nat.le_of_ble_eq_true rfl, (Nat.le_of_ble_eq_true rfl), (Nat.le_of_ble_eq_true rfl)⟩ dX9_move_25) hW hS hA (fun v gc' H locs hpost hW hS => ?_)
    obtain ⟨rfl, rfl⟩ := hpost
    have hW : zW g A ([[(x, .inr (12, [.ref a0, .ref a1, .ref a2, .int (nI (m_sk k + 1)), .ref a3, .ref a4, .ref a5, .int (nI ty), .int 0, .int (nI at_), .int (zb bF), .int val, .ref a6, .int (nI tl), .int (zb bC)]))], [(a0, .inl (g.2.1 0, 89, .inl (upd f 5 (nI q))))], [(a2, .inl (g.2.1 0, 534, .inl (m_save f k pa)))]] : List va_W) H := hW
    refine W.eq (g2 := F0 zm 28 ls [.int (f 5)]) rfl ?_
    refine zWR.iret X hAe hW hS hr hlocks ?_ (Nat.le_of_ble_eq_true rfl) (Nat.le_of_ble_eq_true rfl) dX9_move_28
    exact ⟨rfl, rfl⟩
  · exact absurd ((m_in_T (a := 0) (b := 5) rfl rfl rfl (by omega) (by omega) (by decide)).symm.trans c9_0) (by decide)

abbrev rm_X9_silt_bad : Room := { frames := 2, cells := 0, slots := 0, locals := 42 }
set_option maxHeartbeats 4000000 in
set_option maxRecDepth 100000 in
theorem m_X9_silt_bad (l : Launch) (g : zG) (x a0 a1 a2 a3 a4 a5 a6 : Nat) (k ty at_ tl : Nat) (thr val : Int32) (bF bC : Bool) (q v : Int32) (hbad : (m_in q 0 5 && m_in v 0 999) = false) (sz : Nat) : zWR l yX9_silt cX9_silt 3 (Option.some Jvm.ClassFile.FieldType.int) rm_X9_silt_bad g [.ref x, .int q, .int v] ([[(x, .inr (12, [.ref a0, .ref a1, .ref a2, .int (nI k), .ref a3, .ref a4, .ref a5, .int (nI ty), .int thr, .int (nI at_), .int (zb bF), .int val, .ref a6, .int (nI tl), .int (zb bC)]))]] : List va_W) 0 0 sz (fun zv gs' => zv = some (.int (0)) ∧ gs' = [[(x, .inr (12, [.ref a0, .ref a1, .ref a2, .int (nI k), .ref a3, .ref a4, .ref a5, .int (nI ty), .int 1, .int (nI at_), .int (zb bF), .int val, .ref a6, .int (nI tl), .int (zb bC)]))]]) := by
  refine zWR.start (by decide) (Nat.le_of_ble_eq_true rfl) ?_
  intro zp ze s zm zbl zmt zc ls A X hr hlocks hinn hl hAe hW hS hA hA0
  have hx := X.1
  have hb := X.2.1
  have hml := X.2.2.1
  have hown := X.2.2.2.1
  have hls := hl.1
  have hl : lv_has ls 3 [(0, .ref x), (1, .int q), (2, .int v)] := hl
  refine lv_aload_n hx hb dX9_silt_0 rfl (lv_at hl 0 rfl) ?_
  refine lv_iconst (v := 0) hx hb dX9_silt_1 rfl ?_
  refine z_put X hW hS 0 0 rfl rfl zP_RX9_32_12 rfl rfl (Nat.le_of_ble_eq_true rfl) dX9_silt_2 (fun H locs hW hS => ?_)
  have hW : zW g A ([[(x, .inr (12, [.ref a0, .ref a1, .ref a2, .int (nI k), .ref a3, .ref a4, .ref a5, .int (nI ty), .int 0, .int (nI at_), .int (zb bF), .int val, .ref a6, .int (nI tl), .int (zb bC)]))]] : List va_W) H := hW
  refine lv_iload_n hx hb dX9_silt_5 rfl (lv_at hl 1 rfl) ?_
  refine zc_ro (zr_S (As := [.int q]) (rest := []) X (m_X9_isReach l g q) zL_RX9_126 trivial hS hA0 hls rfl (Nat.le_of_ble_eq_true rfl) ⟨rfl, rfl, Nat.le_of_ble_eq_true rfl, Nat.le_of_ble_eq_true rfl, (Nat.le_of_ble_eq_true rfl), (Nat.le_of_ble_eq_true rfl)⟩ dX9_silt_6) ?_
  refine zb_ifeq (tgt := 23) hx hb dX9_silt_9 (by decide) (fun c9_0 => ?_) (fun c9_0 => ?_)
  · skip
    refine lv_aload_n hx hb dX9_silt_23 rfl (lv_at hl 0 rfl) ?_
    refine lv_iconst (v := 1) hx hb dX9_silt_24 rfl ?_
    refine zc_wr (gc := [[(x, .inr (12, [.ref a0, .ref a1, .ref a2, .int (nI k), .ref a3, .ref a4, .ref a5, .int (nI ty), .int 0, .int (nI at_), .int (zb bF), .int val, .ref a6, .int (nI tl), .int (zb bC)]))]]) (gr := []) (zr_V (As := [.int 1]) (rest := []) X (m_X9_fails l g x a0 a1 a2 a3 a4 a5 a6 k ty at_ tl 0 val bF bC 1 _) zL_RX9_47 (ci := 12) rfl (hW.H.at 0 0 rfl rfl) (zW.pre (gc := [[(x, .inr (12, [.ref a0, .ref a1, .ref a2, .int (nI k), .ref a3, .ref a4, .ref a5, .int (nI ty), .int 0, .int (nI at_), .int (zb bF), .int val, .ref a6, .int (nI tl), .int (zb bC)]))]]) (gr := []) hW hA0) hS hA0 hls rfl (Nat.le_of_ble_eq_true rfl) ⟨rfl, rfl, Nat.le_of_ble_eq_true rfl, Nat.le_of_ble_eq_true rfl, (Nat.le_of_ble_eq_true rfl), (Nat.le_of_ble_eq_true rfl)⟩ dX9_silt_25) hW hS hA (fun v gc' H locs hpost hW hS => ?_)
    obtain ⟨rfl, rfl⟩ := hpost
    have hW : zW g A ([[(x, .inr (12, [.ref a0, .ref a1, .ref a2, .int (nI k), .ref a3, .ref a4, .ref a5, .int (nI ty), .int 1, .int (nI at_), .int (zb bF), .int val, .ref a6, .int (nI tl), .int (zb bC)]))]] : List va_W) H := hW
    refine W.eq (g2 := F0 zm 28 ls [.int 0]) rfl ?_
    refine zWR.iret X hAe hW hS hr hlocks ?_ (Nat.le_of_ble_eq_true rfl) (Nat.le_of_ble_eq_true rfl) dX9_silt_28
    exact ⟨rfl, rfl⟩
  · skip
    refine lv_iload_n hx hb dX9_silt_12 rfl (lv_at hl 2 rfl) ?_
    refine lv_iconst (v := 0) hx hb dX9_silt_13 rfl ?_
    refine lv_sipush (v := 999) hx hb dX9_silt_14 (by decide) ?_
    refine zc_ro (zr_S (As := [.int v, .int 0, .int 999]) (rest := []) X (m_X9_in l g v 0 999) zL_RX9_36 trivial hS hA0 hls rfl (Nat.le_of_ble_eq_true rfl) ⟨rfl, rfl, Nat.le_of_ble_eq_true rfl, Nat.le_of_ble_eq_true rfl, (Nat.le_of_ble_eq_true rfl), (Nat.le_of_ble_eq_true rfl)⟩ dX9_silt_17) ?_
    refine zb_ifne (tgt := 29) hx hb dX9_silt_20 (by decide) (fun c20_1 => ?_) (fun c20_1 => ?_)
    · exact absurd hbad (by simp [c9_0, c20_1])
    · skip
      refine lv_aload_n hx hb dX9_silt_23 rfl (lv_at hl 0 rfl) ?_
      refine lv_iconst (v := 1) hx hb dX9_silt_24 rfl ?_
      refine zc_wr (gc := [[(x, .inr (12, [.ref a0, .ref a1, .ref a2, .int (nI k), .ref a3, .ref a4, .ref a5, .int (nI ty), .int 0, .int (nI at_), .int (zb bF), .int val, .ref a6, .int (nI tl), .int (zb bC)]))]]) (gr := []) (zr_V (As := [.int 1]) (rest := []) X (m_X9_fails l g x a0 a1 a2 a3 a4 a5 a6 k ty at_ tl 0 val bF bC 1 _) zL_RX9_47 (ci := 12) rfl (hW.H.at 0 0 rfl rfl) (zW.pre (gc := [[(x, .inr (12, [.ref a0, .ref a1, .ref a2, .int (nI k), .ref a3, .ref a4, .ref a5, .int (nI ty), .int 0, .int (nI at_), .int (zb bF), .int val, .ref a6, .int (nI tl), .int (zb bC)]))]]) (gr := []) hW hA0) hS hA0 hls rfl (Nat.le_of_ble_eq_true rfl) ⟨rfl, rfl, Nat.le_of_ble_eq_true rfl, Nat.le_of_ble_eq_true rfl, (Nat.le_of_ble_eq_true rfl), (Nat.le_of_ble_eq_true rfl)⟩ dX9_silt_25) hW hS hA (fun v gc' H locs hpost hW hS => ?_)
      obtain ⟨rfl, rfl⟩ := hpost
      have hW : zW g A ([[(x, .inr (12, [.ref a0, .ref a1, .ref a2, .int (nI k), .ref a3, .ref a4, .ref a5, .int (nI ty), .int 1, .int (nI at_), .int (zb bF), .int val, .ref a6, .int (nI tl), .int (zb bC)]))]] : List va_W) H := hW
      refine W.eq (g2 := F0 zm 28 ls [.int 0]) rfl ?_
      refine zWR.iret X hAe hW hS hr hlocks ?_ (Nat.le_of_ble_eq_true rfl) (Nat.le_of_ble_eq_true rfl) dX9_silt_28
      exact ⟨rfl, rfl⟩

abbrev rm_X9_silt_ok : Room := { frames := 2, cells := 0, slots := 0, locals := 45 }
set_option maxHeartbeats 4000000 in
set_option maxRecDepth 100000 in
theorem m_X9_silt_ok (l : Launch) (g : zG) (x a0 a1 a2 a3 a4 a5 a6 : Nat) (k ty at_ tl : Nat) (thr val : Int32) (bF bC : Bool) (f pa : Nat → Int32) (q : Nat) (v : Int32) (hq : q < 6) (hv : m_in v 0 999 = true) (hk : k ≤ 6) (sz : Nat) : zWR l yX9_silt cX9_silt 3 (Option.some Jvm.ClassFile.FieldType.int) rm_X9_silt_ok g [.ref x, .int (nI q), .int v] ([[(x, .inr (12, [.ref a0, .ref a1, .ref a2, .int (nI k), .ref a3, .ref a4, .ref a5, .int (nI ty), .int thr, .int (nI at_), .int (zb bF), .int val, .ref a6, .int (nI tl), .int (zb bC)]))], [(a0, .inl (g.2.1 0, 89, .inl f))], [(a2, .inl (g.2.1 0, 534, .inl pa))]] : List va_W) 0 0 sz (fun zv gs' => zv = some (.int (f (8 + 3 * q))) ∧ gs' = [[(x, .inr (12, [.ref a0, .ref a1, .ref a2, .int (nI (m_sk k + 1)), .ref a3, .ref a4, .ref a5, .int (nI ty), .int 0, .int (nI at_), .int (zb bF), .int val, .ref a6, .int (nI tl), .int (zb bC)]))], [(a0, .inl (g.2.1 0, 89, .inl (upd f (8 + 3 * q) v)))], [(a2, .inl (g.2.1 0, 534, .inl (m_save f k pa)))]]) := by
  refine zWR.start (by decide) (Nat.le_of_ble_eq_true rfl) ?_
  intro zp ze s zm zbl zmt zc ls A X hr hlocks hinn hl hAe hW hS hA hA0
  have hx := X.1
  have hb := X.2.1
  have hml := X.2.2.1
  have hown := X.2.2.2.1
  have hls := hl.1
  have hl : lv_has ls 3 [(0, .ref x), (1, .int (nI q)), (2, .int v)] := hl
  refine lv_aload_n hx hb dX9_silt_0 rfl (lv_at hl 0 rfl) ?_
  refine lv_iconst (v := 0) hx hb dX9_silt_1 rfl ?_
  refine z_put X hW hS 0 0 rfl rfl zP_RX9_32_12 rfl rfl (Nat.le_of_ble_eq_true rfl) dX9_silt_2 (fun H locs hW hS => ?_)
  have hW : zW g A ([[(x, .inr (12, [.ref a0, .ref a1, .ref a2, .int (nI k), .ref a3, .ref a4, .ref a5, .int (nI ty), .int 0, .int (nI at_), .int (zb bF), .int val, .ref a6, .int (nI tl), .int (zb bC)]))], [(a0, .inl (g.2.1 0, 89, .inl f))], [(a2, .inl (g.2.1 0, 534, .inl pa))]] : List va_W) H := hW
  refine lv_iload_n hx hb dX9_silt_5 rfl (lv_at hl 1 rfl) ?_
  refine zc_ro (zr_S (As := [.int (nI q)]) (rest := []) X (m_X9_isReach l g (nI q)) zL_RX9_126 trivial hS hA0 hls rfl (Nat.le_of_ble_eq_true rfl) ⟨rfl, rfl, Nat.le_of_ble_eq_true rfl, Nat.le_of_ble_eq_true rfl, (Nat.le_of_ble_eq_true rfl), (Nat.le_of_ble_eq_true rfl)⟩ dX9_silt_6) ?_
  refine zb_ifeq (tgt := 23) hx hb dX9_silt_9 (by decide) (fun c9_0 => ?_) (fun c9_0 => ?_)
  · exact absurd ((m_in_T (a := 0) (b := 5) rfl rfl rfl (by omega) (by omega) (by decide)).symm.trans c9_0) (by decide)
  · skip
    refine lv_iload_n hx hb dX9_silt_12 rfl (lv_at hl 2 rfl) ?_
    refine lv_iconst (v := 0) hx hb dX9_silt_13 rfl ?_
    refine lv_sipush (v := 999) hx hb dX9_silt_14 (by decide) ?_
    refine zc_ro (zr_S (As := [.int v, .int 0, .int 999]) (rest := []) X (m_X9_in l g v 0 999) zL_RX9_36 trivial hS hA0 hls rfl (Nat.le_of_ble_eq_true rfl) ⟨rfl, rfl, Nat.le_of_ble_eq_true rfl, Nat.le_of_ble_eq_true rfl, (Nat.le_of_ble_eq_true rfl), (Nat.le_of_ble_eq_true rfl)⟩ dX9_silt_17) ?_
    refine zb_ifne (tgt := 29) hx hb dX9_silt_20 (by decide) (fun c20_1 => ?_) (fun c20_1 => ?_)
    · skip
      refine lv_aload_n hx hb dX9_silt_29 rfl (lv_at hl 0 rfl) ?_
      refine zc_wr (gc := [[(x, .inr (12, [.ref a0, .ref a1, .ref a2, .int (nI k), .ref a3, .ref a4, .ref a5, .int (nI ty), .int 0, .int (nI at_), .int (zb bF), .int val, .ref a6, .int (nI tl), .int (zb bC)]))], [(a0, .inl (g.2.1 0, 89, .inl f))], [(a2, .inl (g.2.1 0, 534, .inl pa))]]) (gr := []) (zr_V (As := []) (rest := []) X (m_X9_saves l g x a0 a1 a2 a3 a4 a5 a6 k ty at_ tl 0 val bF bC f pa hk _) zL_RX9_51 (ci := 12) rfl (hW.H.at 0 0 rfl rfl) (zW.pre (gc := [[(x, .inr (12, [.ref a0, .ref a1, .ref a2, .int (nI k), .ref a3, .ref a4, .ref a5, .int (nI ty), .int 0, .int (nI at_), .int (zb bF), .int val, .ref a6, .int (nI tl), .int (zb bC)]))], [(a0, .inl (g.2.1 0, 89, .inl f))], [(a2, .inl (g.2.1 0, 534, .inl pa))]]) (gr := []) hW hA0) hS hA0 hls rfl (Nat.le_of_ble_eq_true rfl) ⟨rfl, rfl, Nat.le_of_ble_eq_true rfl, Nat.le_of_ble_eq_true rfl, (Nat.le_of_ble_eq_true rfl), (Nat.le_of_ble_eq_true rfl)⟩ dX9_silt_30) hW hS hA (fun v gc' H locs hpost hW hS => ?_)
      obtain ⟨rfl, rfl⟩ := hpost
      have hW : zW g A ([[(x, .inr (12, [.ref a0, .ref a1, .ref a2, .int (nI (m_sk k + 1)), .ref a3, .ref a4, .ref a5, .int (nI ty), .int 0, .int (nI at_), .int (zb bF), .int val, .ref a6, .int (nI tl), .int (zb bC)]))], [(a0, .inl (g.2.1 0, 89, .inl f))], [(a2, .inl (g.2.1 0, 534, .inl (m_save f k pa)))]] : List va_W) H := hW
      refine W.eq (g2 := F0 zm 33 ls []) rfl ?_
      refine lv_aload_n hx hb dX9_silt_33 rfl (lv_at hl 0 rfl) ?_
      refine lv_bipush (v := 8) hx hb dX9_silt_34 (by decide) ?_
      refine lv_iconst (v := 3) hx hb dX9_silt_36 rfl ?_
      refine lv_iload_n hx hb dX9_silt_37 rfl (lv_at hl 1 rfl) ?_
      refine lv_imul hx hb dX9_silt_38 ?_
      refine lv_iadd hx hb dX9_silt_39 ?_
      refine lv_iload_n hx hb dX9_silt_40 rfl (lv_at hl 2 rfl) ?_
      refine z_stk (b := [.int v, .int (nI (8 + (3 * q))), .ref x]) (by rw [show (8 + (3 * (nI q))) = nI (8 + (3 * q)) from zx_add rfl (zx_mul rfl rfl)]) ?_
      refine zc_wr (gc := [[(x, .inr (12, [.ref a0, .ref a1, .ref a2, .int (nI (m_sk k + 1)), .ref a3, .ref a4, .ref a5, .int (nI ty), .int 0, .int (nI at_), .int (zb bF), .int val, .ref a6, .int (nI tl), .int (zb bC)]))], [(a0, .inl (g.2.1 0, 89, .inl f))]]) (gr := [[(a2, .inl (g.2.1 0, 534, .inl (m_save f k pa)))]]) (zr_V (As := [.int (nI (8 + (3 * q))), .int v]) (rest := []) X (m_X9_changes l g x a0 a1 a2 a3 a4 a5 a6 (m_sk k + 1) ty at_ tl 0 val bF bC f (8 + (3 * q)) v (by omega) _) zL_RX9_122 (ci := 12) rfl (hW.H.at 0 0 rfl rfl) (zW.pre (gc := [[(x, .inr (12, [.ref a0, .ref a1, .ref a2, .int (nI (m_sk k + 1)), .ref a3, .ref a4, .ref a5, .int (nI ty), .int 0, .int (nI at_), .int (zb bF), .int val, .ref a6, .int (nI tl), .int (zb bC)]))], [(a0, .inl (g.2.1 0, 89, .inl f))]]) (gr := [[(a2, .inl (g.2.1 0, 534, .inl (m_save f k pa)))]]) hW hA0) hS hA0 hls rfl (Nat.le_of_ble_eq_true rfl) ⟨rfl, rfl, Nat.le_of_ble_eq_true rfl, Nat.le_of_ble_eq_true rfl, (Nat.le_of_ble_eq_true rfl), (Nat.le_of_ble_eq_true rfl)⟩ dX9_silt_41) hW hS hA (fun v gc' H locs hpost hW hS => ?_)
      obtain ⟨rfl, rfl⟩ := hpost
      have hW : zW g A ([[(x, .inr (12, [.ref a0, .ref a1, .ref a2, .int (nI (m_sk k + 1)), .ref a3, .ref a4, .ref a5, .int (nI ty), .int 0, .int (nI at_), .int (zb bF), .int val, .ref a6, .int (nI tl), .int (zb bC)]))], [(a0, .inl (g.2.1 0, 89, .inl (upd f (8 + (3 * q)) v)))], [(a2, .inl (g.2.1 0, 534, .inl (m_save f k pa)))]] : List va_W) H := hW
      refine W.eq (g2 := F0 zm 44 ls [.int (f (8 + (3 * q)))]) rfl ?_
      refine zWR.iret X hAe hW hS hr hlocks ?_ (Nat.le_of_ble_eq_true rfl) (Nat.le_of_ble_eq_true rfl) dX9_silt_44
      exact ⟨rfl, rfl⟩
    · exact absurd (hv.symm.trans c20_1) (by decide)

abbrev rm_X9_bound_bad : Room := { frames := 2, cells := 0, slots := 0, locals := 42 }
set_option maxHeartbeats 4000000 in
set_option maxRecDepth 100000 in
theorem m_X9_bound_bad (l : Launch) (g : zG) (x a0 a1 a2 a3 a4 a5 a6 : Nat) (k ty at_ tl : Nat) (thr val : Int32) (bF bC : Bool) (q v : Int32) (hbad : (m_in q 0 4 && m_in v 0 500) = false) (sz : Nat) : zWR l yX9_bound cX9_bound 3 (Option.some Jvm.ClassFile.FieldType.int) rm_X9_bound_bad g [.ref x, .int q, .int v] ([[(x, .inr (12, [.ref a0, .ref a1, .ref a2, .int (nI k), .ref a3, .ref a4, .ref a5, .int (nI ty), .int thr, .int (nI at_), .int (zb bF), .int val, .ref a6, .int (nI tl), .int (zb bC)]))]] : List va_W) 0 0 sz (fun zv gs' => zv = some (.int (0)) ∧ gs' = [[(x, .inr (12, [.ref a0, .ref a1, .ref a2, .int (nI k), .ref a3, .ref a4, .ref a5, .int (nI ty), .int 1, .int (nI at_), .int (zb bF), .int val, .ref a6, .int (nI tl), .int (zb bC)]))]]) := by
  refine zWR.start (by decide) (Nat.le_of_ble_eq_true rfl) ?_
  intro zp ze s zm zbl zmt zc ls A X hr hlocks hinn hl hAe hW hS hA hA0
  have hx := X.1
  have hb := X.2.1
  have hml := X.2.2.1
  have hown := X.2.2.2.1
  have hls := hl.1
  have hl : lv_has ls 3 [(0, .ref x), (1, .int q), (2, .int v)] := hl
  refine lv_aload_n hx hb dX9_bound_0 rfl (lv_at hl 0 rfl) ?_
  refine lv_iconst (v := 0) hx hb dX9_bound_1 rfl ?_
  refine z_put X hW hS 0 0 rfl rfl zP_RX9_32_12 rfl rfl (Nat.le_of_ble_eq_true rfl) dX9_bound_2 (fun H locs hW hS => ?_)
  have hW : zW g A ([[(x, .inr (12, [.ref a0, .ref a1, .ref a2, .int (nI k), .ref a3, .ref a4, .ref a5, .int (nI ty), .int 0, .int (nI at_), .int (zb bF), .int val, .ref a6, .int (nI tl), .int (zb bC)]))]] : List va_W) H := hW
  refine lv_iload_n hx hb dX9_bound_5 rfl (lv_at hl 1 rfl) ?_
  refine zc_ro (zr_S (As := [.int q]) (rest := []) X (m_X9_isMeadow l g q) zL_RX9_129 trivial hS hA0 hls rfl (Nat.le_of_ble_eq_true rfl) ⟨rfl, rfl, Nat.le_of_ble_eq_true rfl, Nat.le_of_ble_eq_true rfl, (Nat.le_of_ble_eq_true rfl), (Nat.le_of_ble_eq_true rfl)⟩ dX9_bound_6) ?_
  refine zb_ifeq (tgt := 23) hx hb dX9_bound_9 (by decide) (fun c9_0 => ?_) (fun c9_0 => ?_)
  · skip
    refine lv_aload_n hx hb dX9_bound_23 rfl (lv_at hl 0 rfl) ?_
    refine lv_iconst (v := 1) hx hb dX9_bound_24 rfl ?_
    refine zc_wr (gc := [[(x, .inr (12, [.ref a0, .ref a1, .ref a2, .int (nI k), .ref a3, .ref a4, .ref a5, .int (nI ty), .int 0, .int (nI at_), .int (zb bF), .int val, .ref a6, .int (nI tl), .int (zb bC)]))]]) (gr := []) (zr_V (As := [.int 1]) (rest := []) X (m_X9_fails l g x a0 a1 a2 a3 a4 a5 a6 k ty at_ tl 0 val bF bC 1 _) zL_RX9_47 (ci := 12) rfl (hW.H.at 0 0 rfl rfl) (zW.pre (gc := [[(x, .inr (12, [.ref a0, .ref a1, .ref a2, .int (nI k), .ref a3, .ref a4, .ref a5, .int (nI ty), .int 0, .int (nI at_), .int (zb bF), .int val, .ref a6, .int (nI tl), .int (zb bC)]))]]) (gr := []) hW hA0) hS hA0 hls rfl (Nat.le_of_ble_eq_true rfl) ⟨rfl, rfl, Nat.le_of_ble_eq_true rfl, Nat.le_of_ble_eq_true rfl, (Nat.le_of_ble_eq_true rfl), (Nat.le_of_ble_eq_true rfl)⟩ dX9_bound_25) hW hS hA (fun v gc' H locs hpost hW hS => ?_)
    obtain ⟨rfl, rfl⟩ := hpost
    have hW : zW g A ([[(x, .inr (12, [.ref a0, .ref a1, .ref a2, .int (nI k), .ref a3, .ref a4, .ref a5, .int (nI ty), .int 1, .int (nI at_), .int (zb bF), .int val, .ref a6, .int (nI tl), .int (zb bC)]))]] : List va_W) H := hW
    refine W.eq (g2 := F0 zm 28 ls [.int 0]) rfl ?_
    refine zWR.iret X hAe hW hS hr hlocks ?_ (Nat.le_of_ble_eq_true rfl) (Nat.le_of_ble_eq_true rfl) dX9_bound_28
    exact ⟨rfl, rfl⟩
  · skip
    refine lv_iload_n hx hb dX9_bound_12 rfl (lv_at hl 2 rfl) ?_
    refine lv_iconst (v := 0) hx hb dX9_bound_13 rfl ?_
    refine lv_sipush (v := 500) hx hb dX9_bound_14 (by decide) ?_
    refine zc_ro (zr_S (As := [.int v, .int 0, .int 500]) (rest := []) X (m_X9_in l g v 0 500) zL_RX9_36 trivial hS hA0 hls rfl (Nat.le_of_ble_eq_true rfl) ⟨rfl, rfl, Nat.le_of_ble_eq_true rfl, Nat.le_of_ble_eq_true rfl, (Nat.le_of_ble_eq_true rfl), (Nat.le_of_ble_eq_true rfl)⟩ dX9_bound_17) ?_
    refine zb_ifne (tgt := 29) hx hb dX9_bound_20 (by decide) (fun c20_1 => ?_) (fun c20_1 => ?_)
    · exact absurd hbad (by simp [c9_0, c20_1])
    · skip
      refine lv_aload_n hx hb dX9_bound_23 rfl (lv_at hl 0 rfl) ?_
      refine lv_iconst (v := 1) hx hb dX9_bound_24 rfl ?_
      refine zc_wr (gc := [[(x, .inr (12, [.ref a0, .ref a1, .ref a2, .int (nI k), .ref a3, .ref a4, .ref a5, .int (nI ty), .int 0, .int (nI at_), .int (zb bF), .int val, .ref a6, .int (nI tl), .int (zb bC)]))]]) (gr := []) (zr_V (As := [.int 1]) (rest := []) X (m_X9_fails l g x a0 a1 a2 a3 a4 a5 a6 k ty at_ tl 0 val bF bC 1 _) zL_RX9_47 (ci := 12) rfl (hW.H.at 0 0 rfl rfl) (zW.pre (gc := [[(x, .inr (12, [.ref a0, .ref a1, .ref a2, .int (nI k), .ref a3, .ref a4, .ref a5, .int (nI ty), .int 0, .int (nI at_), .int (zb bF), .int val, .ref a6, .int (nI tl), .int (zb bC)]))]]) (gr := []) hW hA0) hS hA0 hls rfl (Nat.le_of_ble_eq_true rfl) ⟨rfl, rfl, Nat.le_of_ble_eq_true rfl, Nat.le_of_ble_eq_true rfl, (Nat.le_of_ble_eq_true rfl), (Nat.le_of_ble_eq_true rfl)⟩ dX9_bound_25) hW hS hA (fun v gc' H locs hpost hW hS => ?_)
      obtain ⟨rfl, rfl⟩ := hpost
      have hW : zW g A ([[(x, .inr (12, [.ref a0, .ref a1, .ref a2, .int (nI k), .ref a3, .ref a4, .ref a5, .int (nI ty), .int 1, .int (nI at_), .int (zb bF), .int val, .ref a6, .int (nI tl), .int (zb bC)]))]] : List va_W) H := hW
      refine W.eq (g2 := F0 zm 28 ls [.int 0]) rfl ?_
      refine zWR.iret X hAe hW hS hr hlocks ?_ (Nat.le_of_ble_eq_true rfl) (Nat.le_of_ble_eq_true rfl) dX9_bound_28
      exact ⟨rfl, rfl⟩

abbrev rm_X9_bound_ok : Room := { frames := 2, cells := 0, slots := 0, locals := 45 }
set_option maxHeartbeats 4000000 in
set_option maxRecDepth 100000 in
theorem m_X9_bound_ok (l : Launch) (g : zG) (x a0 a1 a2 a3 a4 a5 a6 : Nat) (k ty at_ tl : Nat) (thr val : Int32) (bF bC : Bool) (f pa : Nat → Int32) (q : Nat) (v : Int32) (hq : q < 5) (hv : m_in v 0 500 = true) (hk : k ≤ 6) (sz : Nat) : zWR l yX9_bound cX9_bound 3 (Option.some Jvm.ClassFile.FieldType.int) rm_X9_bound_ok g [.ref x, .int (nI q), .int v] ([[(x, .inr (12, [.ref a0, .ref a1, .ref a2, .int (nI k), .ref a3, .ref a4, .ref a5, .int (nI ty), .int thr, .int (nI at_), .int (zb bF), .int val, .ref a6, .int (nI tl), .int (zb bC)]))], [(a0, .inl (g.2.1 0, 89, .inl f))], [(a2, .inl (g.2.1 0, 534, .inl pa))]] : List va_W) 0 0 sz (fun zv gs' => zv = some (.int (f (54 + 7 * q))) ∧ gs' = [[(x, .inr (12, [.ref a0, .ref a1, .ref a2, .int (nI (m_sk k + 1)), .ref a3, .ref a4, .ref a5, .int (nI ty), .int 0, .int (nI at_), .int (zb bF), .int val, .ref a6, .int (nI tl), .int (zb bC)]))], [(a0, .inl (g.2.1 0, 89, .inl (upd f (54 + 7 * q) v)))], [(a2, .inl (g.2.1 0, 534, .inl (m_save f k pa)))]]) := by
  refine zWR.start (by decide) (Nat.le_of_ble_eq_true rfl) ?_
  intro zp ze s zm zbl zmt zc ls A X hr hlocks hinn hl hAe hW hS hA hA0
  have hx := X.1
  have hb := X.2.1
  have hml := X.2.2.1
  have hown := X.2.2.2.1
  have hls := hl.1
  have hl : lv_has ls 3 [(0, .ref x), (1, .int (nI q)), (2, .int v)] := hl
  refine lv_aload_n hx hb dX9_bound_0 rfl (lv_at hl 0 rfl) ?_
  refine lv_iconst (v := 0) hx hb dX9_bound_1 rfl ?_
  refine z_put X hW hS 0 0 rfl rfl zP_RX9_32_12 rfl rfl (Nat.le_of_ble_eq_true rfl) dX9_bound_2 (fun H locs hW hS => ?_)
  have hW : zW g A ([[(x, .inr (12, [.ref a0, .ref a1, .ref a2, .int (nI k), .ref a3, .ref a4, .ref a5, .int (nI ty), .int 0, .int (nI at_), .int (zb bF), .int val, .ref a6, .int (nI tl), .int (zb bC)]))], [(a0, .inl (g.2.1 0, 89, .inl f))], [(a2, .inl (g.2.1 0, 534, .inl pa))]] : List va_W) H := hW
  refine lv_iload_n hx hb dX9_bound_5 rfl (lv_at hl 1 rfl) ?_
  refine zc_ro (zr_S (As := [.int (nI q)]) (rest := []) X (m_X9_isMeadow l g (nI q)) zL_RX9_129 trivial hS hA0 hls rfl (Nat.le_of_ble_eq_true rfl) ⟨rfl, rfl, Nat.le_of_ble_eq_true rfl, Nat.le_of_ble_eq_true rfl, (Nat.le_of_ble_eq_true rfl), (Nat.le_of_ble_eq_true rfl)⟩ dX9_bound_6) ?_
  refine zb_ifeq (tgt := 23) hx hb dX9_bound_9 (by decide) (fun c9_0 => ?_) (fun c9_0 => ?_)
  · exact absurd ((m_in_T (a := 0) (b := 4) rfl rfl rfl (by omega) (by omega) (by decide)).symm.trans c9_0) (by decide)
  · skip
    refine lv_iload_n hx hb dX9_bound_12 rfl (lv_at hl 2 rfl) ?_
    refine lv_iconst (v := 0) hx hb dX9_bound_13 rfl ?_
    refine lv_sipush (v := 500) hx hb dX9_bound_14 (by decide) ?_
    refine zc_ro (zr_S (As := [.int v, .int 0, .int 500]) (rest := []) X (m_X9_in l g v 0 500) zL_RX9_36 trivial hS hA0 hls rfl (Nat.le_of_ble_eq_true rfl) ⟨rfl, rfl, Nat.le_of_ble_eq_true rfl, Nat.le_of_ble_eq_true rfl, (Nat.le_of_ble_eq_true rfl), (Nat.le_of_ble_eq_true rfl)⟩ dX9_bound_17) ?_
    refine zb_ifne (tgt := 29) hx hb dX9_bound_20 (by decide) (fun c20_1 => ?_) (fun c20_1 => ?_)
    · skip
      refine lv_aload_n hx hb dX9_bound_29 rfl (lv_at hl 0 rfl) ?_
      refine zc_wr (gc := [[(x, .inr (12, [.ref a0, .ref a1, .ref a2, .int (nI k), .ref a3, .ref a4, .ref a5, .int (nI ty), .int 0, .int (nI at_), .int (zb bF), .int val, .ref a6, .int (nI tl), .int (zb bC)]))], [(a0, .inl (g.2.1 0, 89, .inl f))], [(a2, .inl (g.2.1 0, 534, .inl pa))]]) (gr := []) (zr_V (As := []) (rest := []) X (m_X9_saves l g x a0 a1 a2 a3 a4 a5 a6 k ty at_ tl 0 val bF bC f pa hk _) zL_RX9_51 (ci := 12) rfl (hW.H.at 0 0 rfl rfl) (zW.pre (gc := [[(x, .inr (12, [.ref a0, .ref a1, .ref a2, .int (nI k), .ref a3, .ref a4, .ref a5, .int (nI ty), .int 0, .int (nI at_), .int (zb bF), .int val, .ref a6, .int (nI tl), .int (zb bC)]))], [(a0, .inl (g.2.1 0, 89, .inl f))], [(a2, .inl (g.2.1 0, 534, .inl pa))]]) (gr := []) hW hA0) hS hA0 hls rfl (Nat.le_of_ble_eq_true rfl) ⟨rfl, rfl, Nat.le_of_ble_eq_true rfl, Nat.le_of_ble_eq_true rfl, (Nat.le_of_ble_eq_true rfl), (Nat.le_of_ble_eq_true rfl)⟩ dX9_bound_30) hW hS hA (fun v gc' H locs hpost hW hS => ?_)
      obtain ⟨rfl, rfl⟩ := hpost
      have hW : zW g A ([[(x, .inr (12, [.ref a0, .ref a1, .ref a2, .int (nI (m_sk k + 1)), .ref a3, .ref a4, .ref a5, .int (nI ty), .int 0, .int (nI at_), .int (zb bF), .int val, .ref a6, .int (nI tl), .int (zb bC)]))], [(a0, .inl (g.2.1 0, 89, .inl f))], [(a2, .inl (g.2.1 0, 534, .inl (m_save f k pa)))]] : List va_W) H := hW
      refine W.eq (g2 := F0 zm 33 ls []) rfl ?_
      refine lv_aload_n hx hb dX9_bound_33 rfl (lv_at hl 0 rfl) ?_
      refine lv_bipush (v := 54) hx hb dX9_bound_34 (by decide) ?_
      refine lv_bipush (v := 7) hx hb dX9_bound_36 (by decide) ?_
      refine lv_iload_n hx hb dX9_bound_38 rfl (lv_at hl 1 rfl) ?_
      refine lv_imul hx hb dX9_bound_39 ?_
      refine lv_iadd hx hb dX9_bound_40 ?_
      refine lv_iload_n hx hb dX9_bound_41 rfl (lv_at hl 2 rfl) ?_
      refine z_stk (b := [.int v, .int (nI (54 + (7 * q))), .ref x]) (by rw [show (54 + (7 * (nI q))) = nI (54 + (7 * q)) from zx_add rfl (zx_mul rfl rfl)]) ?_
      refine zc_wr (gc := [[(x, .inr (12, [.ref a0, .ref a1, .ref a2, .int (nI (m_sk k + 1)), .ref a3, .ref a4, .ref a5, .int (nI ty), .int 0, .int (nI at_), .int (zb bF), .int val, .ref a6, .int (nI tl), .int (zb bC)]))], [(a0, .inl (g.2.1 0, 89, .inl f))]]) (gr := [[(a2, .inl (g.2.1 0, 534, .inl (m_save f k pa)))]]) (zr_V (As := [.int (nI (54 + (7 * q))), .int v]) (rest := []) X (m_X9_changes l g x a0 a1 a2 a3 a4 a5 a6 (m_sk k + 1) ty at_ tl 0 val bF bC f (54 + (7 * q)) v (by omega) _) zL_RX9_122 (ci := 12) rfl (hW.H.at 0 0 rfl rfl) (zW.pre (gc := [[(x, .inr (12, [.ref a0, .ref a1, .ref a2, .int (nI (m_sk k + 1)), .ref a3, .ref a4, .ref a5, .int (nI ty), .int 0, .int (nI at_), .int (zb bF), .int val, .ref a6, .int (nI tl), .int (zb bC)]))], [(a0, .inl (g.2.1 0, 89, .inl f))]]) (gr := [[(a2, .inl (g.2.1 0, 534, .inl (m_save f k pa)))]]) hW hA0) hS hA0 hls rfl (Nat.le_of_ble_eq_true rfl) ⟨rfl, rfl, Nat.le_of_ble_eq_true rfl, Nat.le_of_ble_eq_true rfl, (Nat.le_of_ble_eq_true rfl), (Nat.le_of_ble_eq_true rfl)⟩ dX9_bound_42) hW hS hA (fun v gc' H locs hpost hW hS => ?_)
      obtain ⟨rfl, rfl⟩ := hpost
      have hW : zW g A ([[(x, .inr (12, [.ref a0, .ref a1, .ref a2, .int (nI (m_sk k + 1)), .ref a3, .ref a4, .ref a5, .int (nI ty), .int 0, .int (nI at_), .int (zb bF), .int val, .ref a6, .int (nI tl), .int (zb bC)]))], [(a0, .inl (g.2.1 0, 89, .inl (upd f (54 + (7 * q)) v)))], [(a2, .inl (g.2.1 0, 534, .inl (m_save f k pa)))]] : List va_W) H := hW
      refine W.eq (g2 := F0 zm 45 ls [.int (f (54 + (7 * q)))]) rfl ?_
      refine zWR.iret X hAe hW hS hr hlocks ?_ (Nat.le_of_ble_eq_true rfl) (Nat.le_of_ble_eq_true rfl) dX9_bound_45
      exact ⟨rfl, rfl⟩
    · exact absurd (hv.symm.trans c20_1) (by decide)

abbrev rm_X9_shift_bad : Room := { frames := 2, cells := 0, slots := 0, locals := 42 }
set_option maxHeartbeats 4000000 in
set_option maxRecDepth 100000 in
theorem m_X9_shift_bad (l : Launch) (g : zG) (x a0 a1 a2 a3 a4 a5 a6 : Nat) (k ty at_ tl : Nat) (thr val : Int32) (bF bC : Bool) (q v : Int32) (hbad : (m_in q 0 4 && m_in v 0 9) = false) (sz : Nat) : zWR l yX9_shift cX9_shift 3 (Option.some Jvm.ClassFile.FieldType.int) rm_X9_shift_bad g [.ref x, .int q, .int v] ([[(x, .inr (12, [.ref a0, .ref a1, .ref a2, .int (nI k), .ref a3, .ref a4, .ref a5, .int (nI ty), .int thr, .int (nI at_), .int (zb bF), .int val, .ref a6, .int (nI tl), .int (zb bC)]))]] : List va_W) 0 0 sz (fun zv gs' => zv = some (.int (0)) ∧ gs' = [[(x, .inr (12, [.ref a0, .ref a1, .ref a2, .int (nI k), .ref a3, .ref a4, .ref a5, .int (nI ty), .int 1, .int (nI at_), .int (zb bF), .int val, .ref a6, .int (nI tl), .int (zb bC)]))]]) := by
  refine zWR.start (by decide) (Nat.le_of_ble_eq_true rfl) ?_
  intro zp ze s zm zbl zmt zc ls A X hr hlocks hinn hl hAe hW hS hA hA0
  have hx := X.1
  have hb := X.2.1
  have hml := X.2.2.1
  have hown := X.2.2.2.1
  have hls := hl.1
  have hl : lv_has ls 3 [(0, .ref x), (1, .int q), (2, .int v)] := hl
  refine lv_aload_n hx hb dX9_shift_0 rfl (lv_at hl 0 rfl) ?_
  refine lv_iconst (v := 0) hx hb dX9_shift_1 rfl ?_
  refine z_put X hW hS 0 0 rfl rfl zP_RX9_32_12 rfl rfl (Nat.le_of_ble_eq_true rfl) dX9_shift_2 (fun H locs hW hS => ?_)
  have hW : zW g A ([[(x, .inr (12, [.ref a0, .ref a1, .ref a2, .int (nI k), .ref a3, .ref a4, .ref a5, .int (nI ty), .int 0, .int (nI at_), .int (zb bF), .int val, .ref a6, .int (nI tl), .int (zb bC)]))]] : List va_W) H := hW
  refine lv_iload_n hx hb dX9_shift_5 rfl (lv_at hl 1 rfl) ?_
  refine zc_ro (zr_S (As := [.int q]) (rest := []) X (m_X9_isMeadow l g q) zL_RX9_129 trivial hS hA0 hls rfl (Nat.le_of_ble_eq_true rfl) ⟨rfl, rfl, Nat.le_of_ble_eq_true rfl, Nat.le_of_ble_eq_true rfl, (Nat.le_of_ble_eq_true rfl), (Nat.le_of_ble_eq_true rfl)⟩ dX9_shift_6) ?_
  refine zb_ifeq (tgt := 22) hx hb dX9_shift_9 (by decide) (fun c9_0 => ?_) (fun c9_0 => ?_)
  · skip
    refine lv_aload_n hx hb dX9_shift_22 rfl (lv_at hl 0 rfl) ?_
    refine lv_iconst (v := 1) hx hb dX9_shift_23 rfl ?_
    refine zc_wr (gc := [[(x, .inr (12, [.ref a0, .ref a1, .ref a2, .int (nI k), .ref a3, .ref a4, .ref a5, .int (nI ty), .int 0, .int (nI at_), .int (zb bF), .int val, .ref a6, .int (nI tl), .int (zb bC)]))]]) (gr := []) (zr_V (As := [.int 1]) (rest := []) X (m_X9_fails l g x a0 a1 a2 a3 a4 a5 a6 k ty at_ tl 0 val bF bC 1 _) zL_RX9_47 (ci := 12) rfl (hW.H.at 0 0 rfl rfl) (zW.pre (gc := [[(x, .inr (12, [.ref a0, .ref a1, .ref a2, .int (nI k), .ref a3, .ref a4, .ref a5, .int (nI ty), .int 0, .int (nI at_), .int (zb bF), .int val, .ref a6, .int (nI tl), .int (zb bC)]))]]) (gr := []) hW hA0) hS hA0 hls rfl (Nat.le_of_ble_eq_true rfl) ⟨rfl, rfl, Nat.le_of_ble_eq_true rfl, Nat.le_of_ble_eq_true rfl, (Nat.le_of_ble_eq_true rfl), (Nat.le_of_ble_eq_true rfl)⟩ dX9_shift_24) hW hS hA (fun v gc' H locs hpost hW hS => ?_)
    obtain ⟨rfl, rfl⟩ := hpost
    have hW : zW g A ([[(x, .inr (12, [.ref a0, .ref a1, .ref a2, .int (nI k), .ref a3, .ref a4, .ref a5, .int (nI ty), .int 1, .int (nI at_), .int (zb bF), .int val, .ref a6, .int (nI tl), .int (zb bC)]))]] : List va_W) H := hW
    refine W.eq (g2 := F0 zm 27 ls [.int 0]) rfl ?_
    refine zWR.iret X hAe hW hS hr hlocks ?_ (Nat.le_of_ble_eq_true rfl) (Nat.le_of_ble_eq_true rfl) dX9_shift_27
    exact ⟨rfl, rfl⟩
  · skip
    refine lv_iload_n hx hb dX9_shift_12 rfl (lv_at hl 2 rfl) ?_
    refine lv_iconst (v := 0) hx hb dX9_shift_13 rfl ?_
    refine lv_bipush (v := 9) hx hb dX9_shift_14 (by decide) ?_
    refine zc_ro (zr_S (As := [.int v, .int 0, .int 9]) (rest := []) X (m_X9_in l g v 0 9) zL_RX9_36 trivial hS hA0 hls rfl (Nat.le_of_ble_eq_true rfl) ⟨rfl, rfl, Nat.le_of_ble_eq_true rfl, Nat.le_of_ble_eq_true rfl, (Nat.le_of_ble_eq_true rfl), (Nat.le_of_ble_eq_true rfl)⟩ dX9_shift_16) ?_
    refine zb_ifne (tgt := 28) hx hb dX9_shift_19 (by decide) (fun c19_1 => ?_) (fun c19_1 => ?_)
    · exact absurd hbad (by simp [c9_0, c19_1])
    · skip
      refine lv_aload_n hx hb dX9_shift_22 rfl (lv_at hl 0 rfl) ?_
      refine lv_iconst (v := 1) hx hb dX9_shift_23 rfl ?_
      refine zc_wr (gc := [[(x, .inr (12, [.ref a0, .ref a1, .ref a2, .int (nI k), .ref a3, .ref a4, .ref a5, .int (nI ty), .int 0, .int (nI at_), .int (zb bF), .int val, .ref a6, .int (nI tl), .int (zb bC)]))]]) (gr := []) (zr_V (As := [.int 1]) (rest := []) X (m_X9_fails l g x a0 a1 a2 a3 a4 a5 a6 k ty at_ tl 0 val bF bC 1 _) zL_RX9_47 (ci := 12) rfl (hW.H.at 0 0 rfl rfl) (zW.pre (gc := [[(x, .inr (12, [.ref a0, .ref a1, .ref a2, .int (nI k), .ref a3, .ref a4, .ref a5, .int (nI ty), .int 0, .int (nI at_), .int (zb bF), .int val, .ref a6, .int (nI tl), .int (zb bC)]))]]) (gr := []) hW hA0) hS hA0 hls rfl (Nat.le_of_ble_eq_true rfl) ⟨rfl, rfl, Nat.le_of_ble_eq_true rfl, Nat.le_of_ble_eq_true rfl, (Nat.le_of_ble_eq_true rfl), (Nat.le_of_ble_eq_true rfl)⟩ dX9_shift_24) hW hS hA (fun v gc' H locs hpost hW hS => ?_)
      obtain ⟨rfl, rfl⟩ := hpost
      have hW : zW g A ([[(x, .inr (12, [.ref a0, .ref a1, .ref a2, .int (nI k), .ref a3, .ref a4, .ref a5, .int (nI ty), .int 1, .int (nI at_), .int (zb bF), .int val, .ref a6, .int (nI tl), .int (zb bC)]))]] : List va_W) H := hW
      refine W.eq (g2 := F0 zm 27 ls [.int 0]) rfl ?_
      refine zWR.iret X hAe hW hS hr hlocks ?_ (Nat.le_of_ble_eq_true rfl) (Nat.le_of_ble_eq_true rfl) dX9_shift_27
      exact ⟨rfl, rfl⟩

abbrev rm_X9_shift_ok : Room := { frames := 2, cells := 0, slots := 0, locals := 45 }
set_option maxHeartbeats 4000000 in
set_option maxRecDepth 100000 in
theorem m_X9_shift_ok (l : Launch) (g : zG) (x a0 a1 a2 a3 a4 a5 a6 : Nat) (k ty at_ tl : Nat) (thr val : Int32) (bF bC : Bool) (f pa : Nat → Int32) (q : Nat) (v : Int32) (hq : q < 5) (hv : m_in v 0 9 = true) (hk : k ≤ 6) (sz : Nat) : zWR l yX9_shift cX9_shift 3 (Option.some Jvm.ClassFile.FieldType.int) rm_X9_shift_ok g [.ref x, .int (nI q), .int v] ([[(x, .inr (12, [.ref a0, .ref a1, .ref a2, .int (nI k), .ref a3, .ref a4, .ref a5, .int (nI ty), .int thr, .int (nI at_), .int (zb bF), .int val, .ref a6, .int (nI tl), .int (zb bC)]))], [(a0, .inl (g.2.1 0, 89, .inl f))], [(a2, .inl (g.2.1 0, 534, .inl pa))]] : List va_W) 0 0 sz (fun zv gs' => zv = some (.int (f (54 + 7 * q + 6))) ∧ gs' = [[(x, .inr (12, [.ref a0, .ref a1, .ref a2, .int (nI (m_sk k + 1)), .ref a3, .ref a4, .ref a5, .int (nI ty), .int 0, .int (nI at_), .int (zb bF), .int val, .ref a6, .int (nI tl), .int (zb bC)]))], [(a0, .inl (g.2.1 0, 89, .inl (upd f (54 + 7 * q + 6) v)))], [(a2, .inl (g.2.1 0, 534, .inl (m_save f k pa)))]]) := by
  refine zWR.start (by decide) (Nat.le_of_ble_eq_true rfl) ?_
  intro zp ze s zm zbl zmt zc ls A X hr hlocks hinn hl hAe hW hS hA hA0
  have hx := X.1
  have hb := X.2.1
  have hml := X.2.2.1
  have hown := X.2.2.2.1
  have hls := hl.1
  have hl : lv_has ls 3 [(0, .ref x), (1, .int (nI q)), (2, .int v)] := hl
  refine lv_aload_n hx hb dX9_shift_0 rfl (lv_at hl 0 rfl) ?_
  refine lv_iconst (v := 0) hx hb dX9_shift_1 rfl ?_
  refine z_put X hW hS 0 0 rfl rfl zP_RX9_32_12 rfl rfl (Nat.le_of_ble_eq_true rfl) dX9_shift_2 (fun H locs hW hS => ?_)
  have hW : zW g A ([[(x, .inr (12, [.ref a0, .ref a1, .ref a2, .int (nI k), .ref a3, .ref a4, .ref a5, .int (nI ty), .int 0, .int (nI at_), .int (zb bF), .int val, .ref a6, .int (nI tl), .int (zb bC)]))], [(a0, .inl (g.2.1 0, 89, .inl f))], [(a2, .inl (g.2.1 0, 534, .inl pa))]] : List va_W) H := hW
  refine lv_iload_n hx hb dX9_shift_5 rfl (lv_at hl 1 rfl) ?_
  refine zc_ro (zr_S (As := [.int (nI q)]) (rest := []) X (m_X9_isMeadow l g (nI q)) zL_RX9_129 trivial hS hA0 hls rfl (Nat.le_of_ble_eq_true rfl) ⟨rfl, rfl, Nat.le_of_ble_eq_true rfl, Nat.le_of_ble_eq_true rfl, (Nat.le_of_ble_eq_true rfl), (Nat.le_of_ble_eq_true rfl)⟩ dX9_shift_6) ?_
  refine zb_ifeq (tgt := 22) hx hb dX9_shift_9 (by decide) (fun c9_0 => ?_) (fun c9_0 => ?_)
  · exact absurd ((m_in_T (a := 0) (b := 4) rfl rfl rfl (by omega) (by omega) (by decide)).symm.trans c9_0) (by decide)
  · skip
    refine lv_iload_n hx hb dX9_shift_12 rfl (lv_at hl 2 rfl) ?_
    refine lv_iconst (v := 0) hx hb dX9_shift_13 rfl ?_
    refine lv_bipush (v := 9) hx hb dX9_shift_14 (by decide) ?_
    refine zc_ro (zr_S (As := [.int v, .int 0, .int 9]) (rest := []) X (m_X9_in l g v 0 9) zL_RX9_36 trivial hS hA0 hls rfl (Nat.le_of_ble_eq_true rfl) ⟨rfl, rfl, Nat.le_of_ble_eq_true rfl, Nat.le_of_ble_eq_true rfl, (Nat.le_of_ble_eq_true rfl), (Nat.le_of_ble_eq_true rfl)⟩ dX9_shift_16) ?_
    refine zb_ifne (tgt := 28) hx hb dX9_shift_19 (by decide) (fun c19_1 => ?_) (fun c19_1 => ?_)
    · skip
      refine lv_aload_n hx hb dX9_shift_28 rfl (lv_at hl 0 rfl) ?_
      refine zc_wr (gc := [[(x, .inr (12, [.ref a0, .ref a1, .ref a2, .int (nI k), .ref a3, .ref a4, .ref a5, .int (nI ty), .int 0, .int (nI at_), .int (zb bF), .int val, .ref a6, .int (nI tl), .int (zb bC)]))], [(a0, .inl (g.2.1 0, 89, .inl f))], [(a2, .inl (g.2.1 0, 534, .inl pa))]]) (gr := []) (zr_V (As := []) (rest := []) X (m_X9_saves l g x a0 a1 a2 a3 a4 a5 a6 k ty at_ tl 0 val bF bC f pa hk _) zL_RX9_51 (ci := 12) rfl (hW.H.at 0 0 rfl rfl) (zW.pre (gc := [[(x, .inr (12, [.ref a0, .ref a1, .ref a2, .int (nI k), .ref a3, .ref a4, .ref a5, .int (nI ty), .int 0, .int (nI at_), .int (zb bF), .int val, .ref a6, .int (nI tl), .int (zb bC)]))], [(a0, .inl (g.2.1 0, 89, .inl f))], [(a2, .inl (g.2.1 0, 534, .inl pa))]]) (gr := []) hW hA0) hS hA0 hls rfl (Nat.le_of_ble_eq_true rfl) ⟨rfl, rfl, Nat.le_of_ble_eq_true rfl, Nat.le_of_ble_eq_true rfl, (Nat.le_of_ble_eq_true rfl), (Nat.le_of_ble_eq_true rfl)⟩ dX9_shift_29) hW hS hA (fun v gc' H locs hpost hW hS => ?_)
      obtain ⟨rfl, rfl⟩ := hpost
      have hW : zW g A ([[(x, .inr (12, [.ref a0, .ref a1, .ref a2, .int (nI (m_sk k + 1)), .ref a3, .ref a4, .ref a5, .int (nI ty), .int 0, .int (nI at_), .int (zb bF), .int val, .ref a6, .int (nI tl), .int (zb bC)]))], [(a0, .inl (g.2.1 0, 89, .inl f))], [(a2, .inl (g.2.1 0, 534, .inl (m_save f k pa)))]] : List va_W) H := hW
      refine W.eq (g2 := F0 zm 32 ls []) rfl ?_
      refine lv_aload_n hx hb dX9_shift_32 rfl (lv_at hl 0 rfl) ?_
      refine lv_bipush (v := 54) hx hb dX9_shift_33 (by decide) ?_
      refine lv_bipush (v := 7) hx hb dX9_shift_35 (by decide) ?_
      refine lv_iload_n hx hb dX9_shift_37 rfl (lv_at hl 1 rfl) ?_
      refine lv_imul hx hb dX9_shift_38 ?_
      refine lv_iadd hx hb dX9_shift_39 ?_
      refine lv_bipush (v := 6) hx hb dX9_shift_40 (by decide) ?_
      refine lv_iadd hx hb dX9_shift_42 ?_
      refine lv_iload_n hx hb dX9_shift_43 rfl (lv_at hl 2 rfl) ?_
      refine z_stk (b := [.int v, .int (nI ((54 + (7 * q)) + 6)), .ref x]) (by rw [show ((54 + (7 * (nI q))) + 6) = nI ((54 + (7 * q)) + 6) from zx_add (zx_add rfl (zx_mul rfl rfl)) rfl]) ?_
      refine zc_wr (gc := [[(x, .inr (12, [.ref a0, .ref a1, .ref a2, .int (nI (m_sk k + 1)), .ref a3, .ref a4, .ref a5, .int (nI ty), .int 0, .int (nI at_), .int (zb bF), .int val, .ref a6, .int (nI tl), .int (zb bC)]))], [(a0, .inl (g.2.1 0, 89, .inl f))]]) (gr := [[(a2, .inl (g.2.1 0, 534, .inl (m_save f k pa)))]]) (zr_V (As := [.int (nI ((54 + (7 * q)) + 6)), .int v]) (rest := []) X (m_X9_changes l g x a0 a1 a2 a3 a4 a5 a6 (m_sk k + 1) ty at_ tl 0 val bF bC f ((54 + (7 * q)) + 6) v (by omega) _) zL_RX9_122 (ci := 12) rfl (hW.H.at 0 0 rfl rfl) (zW.pre (gc := [[(x, .inr (12, [.ref a0, .ref a1, .ref a2, .int (nI (m_sk k + 1)), .ref a3, .ref a4, .ref a5, .int (nI ty), .int 0, .int (nI at_), .int (zb bF), .int val, .ref a6, .int (nI tl), .int (zb bC)]))], [(a0, .inl (g.2.1 0, 89, .inl f))]]) (gr := [[(a2, .inl (g.2.1 0, 534, .inl (m_save f k pa)))]]) hW hA0) hS hA0 hls rfl (Nat.le_of_ble_eq_true rfl) ⟨rfl, rfl, Nat.le_of_ble_eq_true rfl, Nat.le_of_ble_eq_true rfl, (Nat.le_of_ble_eq_true rfl), (Nat.le_of_ble_eq_true rfl)⟩ dX9_shift_44) hW hS hA (fun v gc' H locs hpost hW hS => ?_)
      obtain ⟨rfl, rfl⟩ := hpost
      have hW : zW g A ([[(x, .inr (12, [.ref a0, .ref a1, .ref a2, .int (nI (m_sk k + 1)), .ref a3, .ref a4, .ref a5, .int (nI ty), .int 0, .int (nI at_), .int (zb bF), .int val, .ref a6, .int (nI tl), .int (zb bC)]))], [(a0, .inl (g.2.1 0, 89, .inl (upd f ((54 + (7 * q)) + 6) v)))], [(a2, .inl (g.2.1 0, 534, .inl (m_save f k pa)))]] : List va_W) H := hW
      refine W.eq (g2 := F0 zm 47 ls [.int (f ((54 + (7 * q)) + 6))]) rfl ?_
      refine zWR.iret X hAe hW hS hr hlocks ?_ (Nat.le_of_ble_eq_true rfl) (Nat.le_of_ble_eq_true rfl) dX9_shift_47
      exact ⟨rfl, rfl⟩
    · exact absurd (hv.symm.trans c19_1) (by decide)

abbrev rm_X9_complain_bad : Room := { frames := 2, cells := 0, slots := 0, locals := 42 }
set_option maxHeartbeats 4000000 in
set_option maxRecDepth 100000 in
theorem m_X9_complain_bad (l : Launch) (g : zG) (x a0 a1 a2 a3 a4 a5 a6 : Nat) (k ty at_ tl : Nat) (thr val : Int32) (bF bC : Bool) (q v : Int32) (hbad : (m_in q 0 4 && m_in v 1 60) = false) (sz : Nat) : zWR l yX9_complain cX9_complain 3 (Option.some Jvm.ClassFile.FieldType.int) rm_X9_complain_bad g [.ref x, .int q, .int v] ([[(x, .inr (12, [.ref a0, .ref a1, .ref a2, .int (nI k), .ref a3, .ref a4, .ref a5, .int (nI ty), .int thr, .int (nI at_), .int (zb bF), .int val, .ref a6, .int (nI tl), .int (zb bC)]))]] : List va_W) 0 0 sz (fun zv gs' => zv = some (.int (0)) ∧ gs' = [[(x, .inr (12, [.ref a0, .ref a1, .ref a2, .int (nI k), .ref a3, .ref a4, .ref a5, .int (nI ty), .int 1, .int (nI at_), .int (zb bF), .int val, .ref a6, .int (nI tl), .int (zb bC)]))]]) := by
  refine zWR.start (by decide) (Nat.le_of_ble_eq_true rfl) ?_
  intro zp ze s zm zbl zmt zc ls A X hr hlocks hinn hl hAe hW hS hA hA0
  have hx := X.1
  have hb := X.2.1
  have hml := X.2.2.1
  have hown := X.2.2.2.1
  have hls := hl.1
  have hl : lv_has ls 3 [(0, .ref x), (1, .int q), (2, .int v)] := hl
  refine lv_aload_n hx hb dX9_complain_0 rfl (lv_at hl 0 rfl) ?_
  refine lv_iconst (v := 0) hx hb dX9_complain_1 rfl ?_
  refine z_put X hW hS 0 0 rfl rfl zP_RX9_32_12 rfl rfl (Nat.le_of_ble_eq_true rfl) dX9_complain_2 (fun H locs hW hS => ?_)
  have hW : zW g A ([[(x, .inr (12, [.ref a0, .ref a1, .ref a2, .int (nI k), .ref a3, .ref a4, .ref a5, .int (nI ty), .int 0, .int (nI at_), .int (zb bF), .int val, .ref a6, .int (nI tl), .int (zb bC)]))]] : List va_W) H := hW
  refine lv_iload_n hx hb dX9_complain_5 rfl (lv_at hl 1 rfl) ?_
  refine zc_ro (zr_S (As := [.int q]) (rest := []) X (m_X9_isMeadow l g q) zL_RX9_129 trivial hS hA0 hls rfl (Nat.le_of_ble_eq_true rfl) ⟨rfl, rfl, Nat.le_of_ble_eq_true rfl, Nat.le_of_ble_eq_true rfl, (Nat.le_of_ble_eq_true rfl), (Nat.le_of_ble_eq_true rfl)⟩ dX9_complain_6) ?_
  refine zb_ifeq (tgt := 22) hx hb dX9_complain_9 (by decide) (fun c9_0 => ?_) (fun c9_0 => ?_)
  · skip
    refine lv_aload_n hx hb dX9_complain_22 rfl (lv_at hl 0 rfl) ?_
    refine lv_iconst (v := 1) hx hb dX9_complain_23 rfl ?_
    refine zc_wr (gc := [[(x, .inr (12, [.ref a0, .ref a1, .ref a2, .int (nI k), .ref a3, .ref a4, .ref a5, .int (nI ty), .int 0, .int (nI at_), .int (zb bF), .int val, .ref a6, .int (nI tl), .int (zb bC)]))]]) (gr := []) (zr_V (As := [.int 1]) (rest := []) X (m_X9_fails l g x a0 a1 a2 a3 a4 a5 a6 k ty at_ tl 0 val bF bC 1 _) zL_RX9_47 (ci := 12) rfl (hW.H.at 0 0 rfl rfl) (zW.pre (gc := [[(x, .inr (12, [.ref a0, .ref a1, .ref a2, .int (nI k), .ref a3, .ref a4, .ref a5, .int (nI ty), .int 0, .int (nI at_), .int (zb bF), .int val, .ref a6, .int (nI tl), .int (zb bC)]))]]) (gr := []) hW hA0) hS hA0 hls rfl (Nat.le_of_ble_eq_true rfl) ⟨rfl, rfl, Nat.le_of_ble_eq_true rfl, Nat.le_of_ble_eq_true rfl, (Nat.le_of_ble_eq_true rfl), (Nat.le_of_ble_eq_true rfl)⟩ dX9_complain_24) hW hS hA (fun v gc' H locs hpost hW hS => ?_)
    obtain ⟨rfl, rfl⟩ := hpost
    have hW : zW g A ([[(x, .inr (12, [.ref a0, .ref a1, .ref a2, .int (nI k), .ref a3, .ref a4, .ref a5, .int (nI ty), .int 1, .int (nI at_), .int (zb bF), .int val, .ref a6, .int (nI tl), .int (zb bC)]))]] : List va_W) H := hW
    refine W.eq (g2 := F0 zm 27 ls [.int 0]) rfl ?_
    refine zWR.iret X hAe hW hS hr hlocks ?_ (Nat.le_of_ble_eq_true rfl) (Nat.le_of_ble_eq_true rfl) dX9_complain_27
    exact ⟨rfl, rfl⟩
  · skip
    refine lv_iload_n hx hb dX9_complain_12 rfl (lv_at hl 2 rfl) ?_
    refine lv_iconst (v := 1) hx hb dX9_complain_13 rfl ?_
    refine lv_bipush (v := 60) hx hb dX9_complain_14 (by decide) ?_
    refine zc_ro (zr_S (As := [.int v, .int 1, .int 60]) (rest := []) X (m_X9_in l g v 1 60) zL_RX9_36 trivial hS hA0 hls rfl (Nat.le_of_ble_eq_true rfl) ⟨rfl, rfl, Nat.le_of_ble_eq_true rfl, Nat.le_of_ble_eq_true rfl, (Nat.le_of_ble_eq_true rfl), (Nat.le_of_ble_eq_true rfl)⟩ dX9_complain_16) ?_
    refine zb_ifne (tgt := 28) hx hb dX9_complain_19 (by decide) (fun c19_1 => ?_) (fun c19_1 => ?_)
    · exact absurd hbad (by simp [c9_0, c19_1])
    · skip
      refine lv_aload_n hx hb dX9_complain_22 rfl (lv_at hl 0 rfl) ?_
      refine lv_iconst (v := 1) hx hb dX9_complain_23 rfl ?_
      refine zc_wr (gc := [[(x, .inr (12, [.ref a0, .ref a1, .ref a2, .int (nI k), .ref a3, .ref a4, .ref a5, .int (nI ty), .int 0, .int (nI at_), .int (zb bF), .int val, .ref a6, .int (nI tl), .int (zb bC)]))]]) (gr := []) (zr_V (As := [.int 1]) (rest := []) X (m_X9_fails l g x a0 a1 a2 a3 a4 a5 a6 k ty at_ tl 0 val bF bC 1 _) zL_RX9_47 (ci := 12) rfl (hW.H.at 0 0 rfl rfl) (zW.pre (gc := [[(x, .inr (12, [.ref a0, .ref a1, .ref a2, .int (nI k), .ref a3, .ref a4, .ref a5, .int (nI ty), .int 0, .int (nI at_), .int (zb bF), .int val, .ref a6, .int (nI tl), .int (zb bC)]))]]) (gr := []) hW hA0) hS hA0 hls rfl (Nat.le_of_ble_eq_true rfl) ⟨rfl, rfl, Nat.le_of_ble_eq_true rfl, Nat.le_of_ble_eq_true rfl, (Nat.le_of_ble_eq_true rfl), (Nat.le_of_ble_eq_true rfl)⟩ dX9_complain_24) hW hS hA (fun v gc' H locs hpost hW hS => ?_)
      obtain ⟨rfl, rfl⟩ := hpost
      have hW : zW g A ([[(x, .inr (12, [.ref a0, .ref a1, .ref a2, .int (nI k), .ref a3, .ref a4, .ref a5, .int (nI ty), .int 1, .int (nI at_), .int (zb bF), .int val, .ref a6, .int (nI tl), .int (zb bC)]))]] : List va_W) H := hW
      refine W.eq (g2 := F0 zm 27 ls [.int 0]) rfl ?_
      refine zWR.iret X hAe hW hS hr hlocks ?_ (Nat.le_of_ble_eq_true rfl) (Nat.le_of_ble_eq_true rfl) dX9_complain_27
      exact ⟨rfl, rfl⟩

abbrev rm_X9_complain_ok : Room := { frames := 4, cells := 0, slots := 0, locals := 88 }
set_option maxHeartbeats 4000000 in
set_option maxRecDepth 100000 in
theorem m_X9_complain_ok (l : Launch) (g : zG) (x a0 a1 a2 a3 a4 a5 a6 : Nat) (k ty at_ tl : Nat) (thr val : Int32) (bF bC : Bool) (f pa : Nat → Int32) (q : Nat) (v : Int32) (hq : q < 5) (hv : m_in v 1 60 = true) (hk : k ≤ 6) (sz : Nat) : zWR l yX9_complain cX9_complain 3 (Option.some Jvm.ClassFile.FieldType.int) rm_X9_complain_ok g [.ref x, .int (nI q), .int v] ([[(x, .inr (12, [.ref a0, .ref a1, .ref a2, .int (nI k), .ref a3, .ref a4, .ref a5, .int (nI ty), .int thr, .int (nI at_), .int (zb bF), .int val, .ref a6, .int (nI tl), .int (zb bC)]))], [(a0, .inl (g.2.1 0, 89, .inl f))], [(a2, .inl (g.2.1 0, 534, .inl pa))]] : List va_W) 0 0 sz (fun zv gs' => zv = some (.int (m_stFor (m_stops f q v) q)) ∧ gs' = [[(x, .inr (12, [.ref a0, .ref a1, .ref a2, .int (nI (m_sk k + 1)), .ref a3, .ref a4, .ref a5, .int (nI ty), .int 0, .int (nI at_), .int (zb bF), .int val, .ref a6, .int (nI tl), .int (zb bC)]))], [(a0, .inl (g.2.1 0, 89, .inl (m_stops f q v)))], [(a2, .inl (g.2.1 0, 534, .inl (m_save f k pa)))]]) := by
  refine zWR.start (by decide) (Nat.le_of_ble_eq_true rfl) ?_
  intro zp ze s zm zbl zmt zc ls A X hr hlocks hinn hl hAe hW hS hA hA0
  have hx := X.1
  have hb := X.2.1
  have hml := X.2.2.1
  have hown := X.2.2.2.1
  have hls := hl.1
  have hl : lv_has ls 3 [(0, .ref x), (1, .int (nI q)), (2, .int v)] := hl
  refine lv_aload_n hx hb dX9_complain_0 rfl (lv_at hl 0 rfl) ?_
  refine lv_iconst (v := 0) hx hb dX9_complain_1 rfl ?_
  refine z_put X hW hS 0 0 rfl rfl zP_RX9_32_12 rfl rfl (Nat.le_of_ble_eq_true rfl) dX9_complain_2 (fun H locs hW hS => ?_)
  have hW : zW g A ([[(x, .inr (12, [.ref a0, .ref a1, .ref a2, .int (nI k), .ref a3, .ref a4, .ref a5, .int (nI ty), .int 0, .int (nI at_), .int (zb bF), .int val, .ref a6, .int (nI tl), .int (zb bC)]))], [(a0, .inl (g.2.1 0, 89, .inl f))], [(a2, .inl (g.2.1 0, 534, .inl pa))]] : List va_W) H := hW
  refine lv_iload_n hx hb dX9_complain_5 rfl (lv_at hl 1 rfl) ?_
  refine zc_ro (zr_S (As := [.int (nI q)]) (rest := []) X (m_X9_isMeadow l g (nI q)) zL_RX9_129 trivial hS hA0 hls rfl (Nat.le_of_ble_eq_true rfl) ⟨rfl, rfl, Nat.le_of_ble_eq_true rfl, Nat.le_of_ble_eq_true rfl, (Nat.le_of_ble_eq_true rfl), (Nat.le_of_ble_eq_true rfl)⟩ dX9_complain_6) ?_
  refine zb_ifeq (tgt := 22) hx hb dX9_complain_9 (by decide) (fun c9_0 => ?_) (fun c9_0 => ?_)
  · exact absurd ((m_in_T (a := 0) (b := 4) rfl rfl rfl (by omega) (by omega) (by decide)).symm.trans c9_0) (by decide)
  · skip
    refine lv_iload_n hx hb dX9_complain_12 rfl (lv_at hl 2 rfl) ?_
    refine lv_iconst (v := 1) hx hb dX9_complain_13 rfl ?_
    refine lv_bipush (v := 60) hx hb dX9_complain_14 (by decide) ?_
    refine zc_ro (zr_S (As := [.int v, .int 1, .int 60]) (rest := []) X (m_X9_in l g v 1 60) zL_RX9_36 trivial hS hA0 hls rfl (Nat.le_of_ble_eq_true rfl) ⟨rfl, rfl, Nat.le_of_ble_eq_true rfl, Nat.le_of_ble_eq_true rfl, (Nat.le_of_ble_eq_true rfl), (Nat.le_of_ble_eq_true rfl)⟩ dX9_complain_16) ?_
    refine zb_ifne (tgt := 28) hx hb dX9_complain_19 (by decide) (fun c19_1 => ?_) (fun c19_1 => ?_)
    · skip
      refine lv_aload_n hx hb dX9_complain_28 rfl (lv_at hl 0 rfl) ?_
      refine zc_wr (gc := [[(x, .inr (12, [.ref a0, .ref a1, .ref a2, .int (nI k), .ref a3, .ref a4, .ref a5, .int (nI ty), .int 0, .int (nI at_), .int (zb bF), .int val, .ref a6, .int (nI tl), .int (zb bC)]))], [(a0, .inl (g.2.1 0, 89, .inl f))], [(a2, .inl (g.2.1 0, 534, .inl pa))]]) (gr := []) (zr_V (As := []) (rest := []) X (m_X9_saves l g x a0 a1 a2 a3 a4 a5 a6 k ty at_ tl 0 val bF bC f pa hk _) zL_RX9_51 (ci := 12) rfl (hW.H.at 0 0 rfl rfl) (zW.pre (gc := [[(x, .inr (12, [.ref a0, .ref a1, .ref a2, .int (nI k), .ref a3, .ref a4, .ref a5, .int (nI ty), .int 0, .int (nI at_), .int (zb bF), .int val, .ref a6, .int (nI tl), .int (zb bC)]))], [(a0, .inl (g.2.1 0, 89, .inl f))], [(a2, .inl (g.2.1 0, 534, .inl pa))]]) (gr := []) hW hA0) hS hA0 hls rfl (Nat.le_of_ble_eq_true rfl) ⟨rfl, rfl, Nat.le_of_ble_eq_true rfl, Nat.le_of_ble_eq_true rfl, (Nat.le_of_ble_eq_true rfl), (Nat.le_of_ble_eq_true rfl)⟩ dX9_complain_29) hW hS hA (fun v gc' H locs hpost hW hS => ?_)
      obtain ⟨rfl, rfl⟩ := hpost
      have hW : zW g A ([[(x, .inr (12, [.ref a0, .ref a1, .ref a2, .int (nI (m_sk k + 1)), .ref a3, .ref a4, .ref a5, .int (nI ty), .int 0, .int (nI at_), .int (zb bF), .int val, .ref a6, .int (nI tl), .int (zb bC)]))], [(a0, .inl (g.2.1 0, 89, .inl f))], [(a2, .inl (g.2.1 0, 534, .inl (m_save f k pa)))]] : List va_W) H := hW
      refine W.eq (g2 := F0 zm 32 ls []) rfl ?_
      refine lv_aload_n hx hb dX9_complain_32 rfl (lv_at hl 0 rfl) ?_
      refine lv_iload_n hx hb dX9_complain_33 rfl (lv_at hl 1 rfl) ?_
      refine lv_iload_n hx hb dX9_complain_34 rfl (lv_at hl 2 rfl) ?_
      refine zc_wr (gc := [[(x, .inr (12, [.ref a0, .ref a1, .ref a2, .int (nI (m_sk k + 1)), .ref a3, .ref a4, .ref a5, .int (nI ty), .int 0, .int (nI at_), .int (zb bF), .int val, .ref a6, .int (nI tl), .int (zb bC)]))], [(a0, .inl (g.2.1 0, 89, .inl f))]]) (gr := [[(a2, .inl (g.2.1 0, 534, .inl (m_save f k pa)))]]) (zr_V (As := [.int (nI q), .int v]) (rest := []) X (m_X9_stopsFor l g x a0 a1 a2 a3 a4 a5 a6 (m_sk k + 1) ty at_ tl 0 val bF bC f q v (by omega) _) zL_RX9_135 (ci := 12) rfl (hW.H.at 0 0 rfl rfl) (zW.pre (gc := [[(x, .inr (12, [.ref a0, .ref a1, .ref a2, .int (nI (m_sk k + 1)), .ref a3, .ref a4, .ref a5, .int (nI ty), .int 0, .int (nI at_), .int (zb bF), .int val, .ref a6, .int (nI tl), .int (zb bC)]))], [(a0, .inl (g.2.1 0, 89, .inl f))]]) (gr := [[(a2, .inl (g.2.1 0, 534, .inl (m_save f k pa)))]]) hW hA0) hS hA0 hls rfl (Nat.le_of_ble_eq_true rfl) ⟨rfl, rfl, Nat.le_of_ble_eq_true rfl, Nat.le_of_ble_eq_true rfl, (Nat.le_of_ble_eq_true rfl), (Nat.le_of_ble_eq_true rfl)⟩ dX9_complain_35) hW hS hA (fun v gc' H locs hpost hW hS => ?_)
      obtain ⟨rfl, rfl⟩ := hpost
      have hW : zW g A ([[(x, .inr (12, [.ref a0, .ref a1, .ref a2, .int (nI (m_sk k + 1)), .ref a3, .ref a4, .ref a5, .int (nI ty), .int 0, .int (nI at_), .int (zb bF), .int val, .ref a6, .int (nI tl), .int (zb bC)]))], [(a0, .inl (g.2.1 0, 89, .inl (m_stops f q v)))], [(a2, .inl (g.2.1 0, 534, .inl (m_save f k pa)))]] : List va_W) H := hW
      refine W.eq (g2 := F0 zm 38 ls [.int (m_stFor (m_stops f q v) q)]) rfl ?_
      refine zWR.iret X hAe hW hS hr hlocks ?_ (Nat.le_of_ble_eq_true rfl) (Nat.le_of_ble_eq_true rfl) dX9_complain_38
      exact ⟨rfl, rfl⟩
    · exact absurd (hv.symm.trans c19_1) (by decide)
