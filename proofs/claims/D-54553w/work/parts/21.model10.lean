set_option maxRecDepth 100000
theorem zL_RX9_194 : zLV RX9 194 RX9 yX9_reason cX9_reason 4 (Option.some Jvm.ClassFile.FieldType.int) 1 := ⟨.inl q1874, q1876, qs65, q103, rfl, q1877, ⟨by decide +kernel, by decide +kernel, by decide +kernel⟩⟩
theorem zL_RX9_197 : zLV RX9 197 RX9 yX9_ofBarge cX9_ofBarge 3 (Option.some Jvm.ClassFile.FieldType.int) 2 := ⟨.inl q1870, q1872, qs64, q103, rfl, q1873, ⟨by decide +kernel, by decide +kernel, by decide +kernel⟩⟩
theorem zL_RX9_200 : zLV RX9 200 RX9 yX9_ofMeadow cX9_ofMeadow 3 (Option.some Jvm.ClassFile.FieldType.int) 2 := ⟨.inl q1882, q1884, qs66, q103, rfl, q1885, ⟨by decide +kernel, by decide +kernel, by decide +kernel⟩⟩
theorem zL_RX9_203 : zLS RX9 203 yX9_raised cX9_raised 3 (Option.some Jvm.ClassFile.FieldType.int) 1 := ⟨.inl q1894, q1895, q103, q1896, ⟨by decide +kernel, by decide +kernel, by decide +kernel⟩⟩
theorem zL_RX9_206 : zLS RX9 206 yX9_ofBarges cX9_ofBarges 4 (Option.some Jvm.ClassFile.FieldType.int) 2 := ⟨.inl q1897, q1898, q103, q1899, ⟨by decide +kernel, by decide +kernel, by decide +kernel⟩⟩
theorem zL_RX9_209 : zLS RX9 209 yX9_allSilt cX9_allSilt 3 (Option.some Jvm.ClassFile.FieldType.int) 1 := ⟨.inl q1900, q1901, q103, q1902, ⟨by decide +kernel, by decide +kernel, by decide +kernel⟩⟩
theorem zL_RX9_212 : zLV RX9 212 RX9 yX9_many cX9_many 4 (Option.some Jvm.ClassFile.FieldType.int) 1 := ⟨.inl q1903, q1905, qs68, q103, rfl, q1906, ⟨by decide +kernel, by decide +kernel, by decide +kernel⟩⟩
theorem zL_RX9_216 : zLV RX9 216 RX9 yX9_counted cX9_counted 2 (Option.some Jvm.ClassFile.FieldType.int) 1 := ⟨.inl q1890, q1892, qs67, q103, rfl, q1893, ⟨by decide +kernel, by decide +kernel, by decide +kernel⟩⟩
abbrev rm_X9_reach_ok : Room := { frames := 2, cells := 0, slots := 0, locals := 42 }
set_option maxHeartbeats 4000000 in
set_option maxRecDepth 100000 in
theorem m_X9_reach_ok (l : Launch) (g : zG) (x a0 a1 a2 a3 a4 a5 a6 : Nat) (k ty at_ tl : Nat) (thr val : Int32) (bF bC : Bool) (f : Nat → Int32) (q w : Nat) (hq : q < 6) (hw : w < 3) (sz : Nat) : zWR l yX9_reach cX9_reach 3 (Option.some Jvm.ClassFile.FieldType.int) rm_X9_reach_ok g [.ref x, .int (nI q), .int (nI w)] ([[(x, .inr (12, [.ref a0, .ref a1, .ref a2, .int (nI k), .ref a3, .ref a4, .ref a5, .int (nI ty), .int thr, .int (nI at_), .int (zb bF), .int val, .ref a6, .int (nI tl), .int (zb bC)]))], [(a0, .inl (g.2.1 0, 89, .inl f))]] : List va_W) 0 0 sz (fun zv gs' => zv = some (.int (f (8 + 3 * q + w))) ∧ gs' = [[(x, .inr (12, [.ref a0, .ref a1, .ref a2, .int (nI k), .ref a3, .ref a4, .ref a5, .int (nI ty), .int 0, .int (nI at_), .int (zb bF), .int val, .ref a6, .int (nI tl), .int (zb bC)]))], [(a0, .inl (g.2.1 0, 89, .inl f))]]) := by
  refine zWR.start (by decide) (Nat.le_of_ble_eq_true rfl) ?_
  intro zp ze s zm zbl zmt zc ls A X hr hlocks hinn hl hAe hW hS hA hA0
  have hx := X.1
  have hb := X.2.1
  have hml := X.2.2.1
  have hown := X.2.2.2.1
  have hls := hl.1
  have hl : lv_has ls 3 [(0, .ref x), (1, .int (nI q)), (2, .int (nI w))] := hl
  refine lv_aload_n hx hb dX9_reach_0 rfl (lv_at hl 0 rfl) ?_
  refine lv_iconst (v := 0) hx hb dX9_reach_1 rfl ?_
  refine z_put X hW hS 0 0 rfl rfl zP_RX9_32_12 rfl rfl (Nat.le_of_ble_eq_true rfl) dX9_reach_2 (fun H locs hW hS => ?_)
  have hW : zW g A ([[(x, .inr (12, [.ref a0, .ref a1, .ref a2, .int (nI k), .ref a3, .ref a4, .ref a5, .int (nI ty), .int 0, .int (nI at_), .int (zb bF), .int val, .ref a6, .int (nI tl), .int (zb bC)]))], [(a0, .inl (g.2.1 0, 89, .inl f))]] : List va_W) H := hW
  refine lv_iload_n hx hb dX9_reach_5 rfl (lv_at hl 1 rfl) ?_
  refine zc_ro (zr_S (As := [.int (nI q)]) (rest := []) X (m_X9_isReach l g (nI q)) zL_RX9_126 trivial hS hA0 hls rfl (Nat.le_of_ble_eq_true rfl) ⟨rfl, rfl, Nat.le_of_ble_eq_true rfl, Nat.le_of_ble_eq_true rfl, (Nat.le_of_ble_eq_true rfl), (Nat.le_of_ble_eq_true rfl)⟩ dX9_reach_6) ?_
  refine zb_ifeq (tgt := 37) hx hb dX9_reach_9 (by decide) (fun c9_0 => ?_) (fun c9_0 => ?_)
  · exact absurd ((m_in_T (a := 0) (b := 5) rfl rfl rfl (by omega) (by omega) (by decide)).symm.trans c9_0) (by decide)
  · skip
    refine lv_iload_n hx hb dX9_reach_12 rfl (lv_at hl 2 rfl) ?_
    refine lv_iconst (v := 0) hx hb dX9_reach_13 rfl ?_
    refine lv_iconst (v := 2) hx hb dX9_reach_14 rfl ?_
    refine zc_ro (zr_S (As := [.int (nI w), .int 0, .int 2]) (rest := []) X (m_X9_in l g (nI w) 0 2) zL_RX9_36 trivial hS hA0 hls rfl (Nat.le_of_ble_eq_true rfl) ⟨rfl, rfl, Nat.le_of_ble_eq_true rfl, Nat.le_of_ble_eq_true rfl, (Nat.le_of_ble_eq_true rfl), (Nat.le_of_ble_eq_true rfl)⟩ dX9_reach_15) ?_
    refine zb_ifeq (tgt := 37) hx hb dX9_reach_18 (by decide) (fun c18_1 => ?_) (fun c18_1 => ?_)
    · exact absurd ((m_in_T (a := 0) (b := 2) rfl rfl rfl (by omega) (by omega) (by decide)).symm.trans c18_1) (by decide)
    · skip
      refine lv_aload_n hx hb dX9_reach_21 rfl (lv_at hl 0 rfl) ?_
      refine z_get X (hW.H.at 0 0 rfl rfl) zF_RX9_7_12 rfl dX9_reach_22 ?_
      refine lv_bipush (v := 8) hx hb dX9_reach_25 (by decide) ?_
      refine lv_iconst (v := 3) hx hb dX9_reach_27 rfl ?_
      refine lv_iload_n hx hb dX9_reach_28 rfl (lv_at hl 1 rfl) ?_
      refine lv_imul hx hb dX9_reach_29 ?_
      refine lv_iadd hx hb dX9_reach_30 ?_
      refine lv_iload_n hx hb dX9_reach_31 rfl (lv_at hl 2 rfl) ?_
      refine lv_iadd hx hb dX9_reach_32 ?_
      refine z_iald X (j := (8 + (3 * q)) + w) (hW.H.at 1 0 rfl rfl) (zx_add (zx_add rfl (zx_mul rfl rfl)) rfl) (by omega) (by decide) dX9_reach_33 ?_
      refine lv_goto (tgt := 42) hx hb dX9_reach_34 (by decide) ?_
      refine zWR.iret X hAe hW hS hr hlocks ?_ (Nat.le_of_ble_eq_true rfl) (Nat.le_of_ble_eq_true rfl) dX9_reach_42
      exact ⟨rfl, rfl⟩

abbrev rm_X9_reach_bad : Room := { frames := 2, cells := 0, slots := 0, locals := 42 }
set_option maxHeartbeats 4000000 in
set_option maxRecDepth 100000 in
theorem m_X9_reach_bad (l : Launch) (g : zG) (x a0 a1 a2 a3 a4 a5 a6 : Nat) (k ty at_ tl : Nat) (thr val : Int32) (bF bC : Bool) (q w : Int32) (hbad : (m_in q 0 5 && m_in w 0 2) = false) (sz : Nat) : zWR l yX9_reach cX9_reach 3 (Option.some Jvm.ClassFile.FieldType.int) rm_X9_reach_bad g [.ref x, .int q, .int w] ([[(x, .inr (12, [.ref a0, .ref a1, .ref a2, .int (nI k), .ref a3, .ref a4, .ref a5, .int (nI ty), .int thr, .int (nI at_), .int (zb bF), .int val, .ref a6, .int (nI tl), .int (zb bC)]))]] : List va_W) 0 0 sz (fun zv gs' => zv = some (.int (0)) ∧ gs' = [[(x, .inr (12, [.ref a0, .ref a1, .ref a2, .int (nI k), .ref a3, .ref a4, .ref a5, .int (nI ty), .int 1, .int (nI at_), .int (zb bF), .int val, .ref a6, .int (nI tl), .int (zb bC)]))]]) := by
  refine zWR.start (by decide) (Nat.le_of_ble_eq_true rfl) ?_
  intro zp ze s zm zbl zmt zc ls A X hr hlocks hinn hl hAe hW hS hA hA0
  have hx := X.1
  have hb := X.2.1
  have hml := X.2.2.1
  have hown := X.2.2.2.1
  have hls := hl.1
  have hl : lv_has ls 3 [(0, .ref x), (1, .int q), (2, .int w)] := hl
  refine lv_aload_n hx hb dX9_reach_0 rfl (lv_at hl 0 rfl) ?_
  refine lv_iconst (v := 0) hx hb dX9_reach_1 rfl ?_
  refine z_put X hW hS 0 0 rfl rfl zP_RX9_32_12 rfl rfl (Nat.le_of_ble_eq_true rfl) dX9_reach_2 (fun H locs hW hS => ?_)
  have hW : zW g A ([[(x, .inr (12, [.ref a0, .ref a1, .ref a2, .int (nI k), .ref a3, .ref a4, .ref a5, .int (nI ty), .int 0, .int (nI at_), .int (zb bF), .int val, .ref a6, .int (nI tl), .int (zb bC)]))]] : List va_W) H := hW
  refine lv_iload_n hx hb dX9_reach_5 rfl (lv_at hl 1 rfl) ?_
  refine zc_ro (zr_S (As := [.int q]) (rest := []) X (m_X9_isReach l g q) zL_RX9_126 trivial hS hA0 hls rfl (Nat.le_of_ble_eq_true rfl) ⟨rfl, rfl, Nat.le_of_ble_eq_true rfl, Nat.le_of_ble_eq_true rfl, (Nat.le_of_ble_eq_true rfl), (Nat.le_of_ble_eq_true rfl)⟩ dX9_reach_6) ?_
  refine zb_ifeq (tgt := 37) hx hb dX9_reach_9 (by decide) (fun c9_0 => ?_) (fun c9_0 => ?_)
  · skip
    refine lv_aload_n hx hb dX9_reach_37 rfl (lv_at hl 0 rfl) ?_
    refine lv_iconst (v := 1) hx hb dX9_reach_38 rfl ?_
    refine zc_wr (gc := [[(x, .inr (12, [.ref a0, .ref a1, .ref a2, .int (nI k), .ref a3, .ref a4, .ref a5, .int (nI ty), .int 0, .int (nI at_), .int (zb bF), .int val, .ref a6, .int (nI tl), .int (zb bC)]))]]) (gr := []) (zr_V (As := [.int 1]) (rest := []) X (m_X9_fails l g x a0 a1 a2 a3 a4 a5 a6 k ty at_ tl 0 val bF bC 1 _) zL_RX9_47 (ci := 12) rfl (hW.H.at 0 0 rfl rfl) (zW.pre (gc := [[(x, .inr (12, [.ref a0, .ref a1, .ref a2, .int (nI k), .ref a3, .ref a4, .ref a5, .int (nI ty), .int 0, .int (nI at_), .int (zb bF), .int val, .ref a6, .int (nI tl), .int (zb bC)]))]]) (gr := []) hW hA0) hS hA0 hls rfl (Nat.le_of_ble_eq_true rfl) ⟨rfl, rfl, Nat.le_of_ble_eq_true rfl, Nat.le_of_ble_eq_true rfl, (Nat.le_of_ble_eq_true rfl), (Nat.le_of_ble_eq_true rfl)⟩ dX9_reach_39) hW hS hA (fun v gc' H locs hpost hW hS => ?_)
    obtain ⟨rfl, rfl⟩ := hpost
    have hW : zW g A ([[(x, .inr (12, [.ref a0, .ref a1, .ref a2, .int (nI k), .ref a3, .ref a4, .ref a5, .int (nI ty), .int 1, .int (nI at_), .int (zb bF), .int val, .ref a6, .int (nI tl), .int (zb bC)]))]] : List va_W) H := hW
    refine W.eq (g2 := F0 zm 42 ls [.int 0]) rfl ?_
    refine zWR.iret X hAe hW hS hr hlocks ?_ (Nat.le_of_ble_eq_true rfl) (Nat.le_of_ble_eq_true rfl) dX9_reach_42
    exact ⟨rfl, rfl⟩
  · skip
    refine lv_iload_n hx hb dX9_reach_12 rfl (lv_at hl 2 rfl) ?_
    refine lv_iconst (v := 0) hx hb dX9_reach_13 rfl ?_
    refine lv_iconst (v := 2) hx hb dX9_reach_14 rfl ?_
    refine zc_ro (zr_S (As := [.int w, .int 0, .int 2]) (rest := []) X (m_X9_in l g w 0 2) zL_RX9_36 trivial hS hA0 hls rfl (Nat.le_of_ble_eq_true rfl) ⟨rfl, rfl, Nat.le_of_ble_eq_true rfl, Nat.le_of_ble_eq_true rfl, (Nat.le_of_ble_eq_true rfl), (Nat.le_of_ble_eq_true rfl)⟩ dX9_reach_15) ?_
    refine zb_ifeq (tgt := 37) hx hb dX9_reach_18 (by decide) (fun c18_1 => ?_) (fun c18_1 => ?_)
    · skip
      refine lv_aload_n hx hb dX9_reach_37 rfl (lv_at hl 0 rfl) ?_
      refine lv_iconst (v := 1) hx hb dX9_reach_38 rfl ?_
      refine zc_wr (gc := [[(x, .inr (12, [.ref a0, .ref a1, .ref a2, .int (nI k), .ref a3, .ref a4, .ref a5, .int (nI ty), .int 0, .int (nI at_), .int (zb bF), .int val, .ref a6, .int (nI tl), .int (zb bC)]))]]) (gr := []) (zr_V (As := [.int 1]) (rest := []) X (m_X9_fails l g x a0 a1 a2 a3 a4 a5 a6 k ty at_ tl 0 val bF bC 1 _) zL_RX9_47 (ci := 12) rfl (hW.H.at 0 0 rfl rfl) (zW.pre (gc := [[(x, .inr (12, [.ref a0, .ref a1, .ref a2, .int (nI k), .ref a3, .ref a4, .ref a5, .int (nI ty), .int 0, .int (nI at_), .int (zb bF), .int val, .ref a6, .int (nI tl), .int (zb bC)]))]]) (gr := []) hW hA0) hS hA0 hls rfl (Nat.le_of_ble_eq_true rfl) ⟨rfl, rfl, Nat.le_of_ble_eq_true rfl, Nat.le_of_ble_eq_true rfl, (Nat.le_of_ble_eq_true rfl), (Nat.le_of_ble_eq_true rfl)⟩ dX9_reach_39) hW hS hA (fun v gc' H locs hpost hW hS => ?_)
      obtain ⟨rfl, rfl⟩ := hpost
      have hW : zW g A ([[(x, .inr (12, [.ref a0, .ref a1, .ref a2, .int (nI k), .ref a3, .ref a4, .ref a5, .int (nI ty), .int 1, .int (nI at_), .int (zb bF), .int val, .ref a6, .int (nI tl), .int (zb bC)]))]] : List va_W) H := hW
      refine W.eq (g2 := F0 zm 42 ls [.int 0]) rfl ?_
      refine zWR.iret X hAe hW hS hr hlocks ?_ (Nat.le_of_ble_eq_true rfl) (Nat.le_of_ble_eq_true rfl) dX9_reach_42
      exact ⟨rfl, rfl⟩
    · exact absurd hbad (by simp [c9_0, c18_1])

abbrev rm_X9_reason : Room := { frames := 4, cells := 0, slots := 0, locals := 89 }
set_option maxHeartbeats 4000000 in
set_option maxRecDepth 100000 in
theorem m_X9_reason (l : Launch) (g : zG) (x a0 a1 a2 a3 a4 a5 a6 : Nat) (k ty at_ tl : Nat) (thr val : Int32) (bF bC : Bool) (f : Nat → Int32) (b : Nat) (n r : Nat) (hn : n ≤ 4) (h6 : f 6 = nI n) (hr6 : r < 6) (h5 : f 5 = nI r) (hb4 : b < 4) (hgo : m_b f b 1 = 2 → ∃ mm, mm < 5 ∧ m_b f b 3 = nI mm) : zRO l yX9_reason cX9_reason 4 (Option.some Jvm.ClassFile.FieldType.int) rm_X9_reason g [.ref x, .int (nI b)] (fun H => zH g ([[(x, .inr (12, [.ref a0, .ref a1, .ref a2, .int (nI k), .ref a3, .ref a4, .ref a5, .int (nI ty), .int thr, .int (nI at_), .int (zb bF), .int val, .ref a6, .int (nI tl), .int (zb bC)]))], [(a0, .inl (g.2.1 0, 89, .inl f))]] : List va_W) H) (.int (m_reason f n r b)) := by
  refine zRO.start (by decide) (Nat.le_of_ble_eq_true rfl) ?_
  intro zp ze s zm zbl zmt zc ls X hr hlocks hP hl hS hA0
  have hx := X.1
  have hb := X.2.1
  have hml := X.2.2.1
  have hown := X.2.2.2.1
  have hls := hl.1
  have hl : lv_has ls 4 [(0, .ref x), (1, .int (nI b))] := hl
  refine lv_aload_n hx hb dX9_reason_0 rfl (lv_at hl 0 rfl) ?_
  refine z_get X (hP.at 0 0 rfl rfl) zF_RX9_7_12 rfl dX9_reason_1 ?_
  refine lv_iload_n hx hb dX9_reason_4 rfl (lv_at hl 1 rfl) ?_
  refine lv_iconst (v := 1) hx hb dX9_reason_5 rfl ?_
  refine zc_ro (zr_S (As := [.ref a0, .int (nI b), .int 1]) (rest := []) X (m_X9_bargeIn l g a0 f b 1 (by omega)) zL_RX9_58 (zH.cons (va_P.one (hP.at 1 0 rfl rfl)) zH.nil) hS hA0 hls rfl (Nat.le_of_ble_eq_true rfl) ⟨rfl, rfl, Nat.le_of_ble_eq_true rfl, Nat.le_of_ble_eq_true rfl, (Nat.le_of_ble_eq_true rfl), (Nat.le_of_ble_eq_true rfl)⟩ dX9_reason_6) ?_
  refine lv_istore_n (lv' := [(2, .int (m_b f b 1)), (0, .ref x), (1, .int (nI b))]) hx hb dX9_reason_9 rfl hl (by decide) rfl (fun ls hl => ?_)
  have hls := hl.1
  refine lv_aload_n hx hb dX9_reason_10 rfl (lv_at hl 1 rfl) ?_
  refine z_get X (hP.at 0 0 rfl rfl) zF_RX9_7_12 rfl dX9_reason_11 ?_
  refine lv_iload_n hx hb dX9_reason_14 rfl (lv_at hl 2 rfl) ?_
  refine lv_iconst (v := 3) hx hb dX9_reason_15 rfl ?_
  refine zc_ro (zr_S (As := [.ref a0, .int (nI b), .int 3]) (rest := []) X (m_X9_bargeIn l g a0 f b 3 (by omega)) zL_RX9_58 (zH.cons (va_P.one (hP.at 1 0 rfl rfl)) zH.nil) hS hA0 hls rfl (Nat.le_of_ble_eq_true rfl) ⟨rfl, rfl, Nat.le_of_ble_eq_true rfl, Nat.le_of_ble_eq_true rfl, (Nat.le_of_ble_eq_true rfl), (Nat.le_of_ble_eq_true rfl)⟩ dX9_reason_16) ?_
  refine lv_istore_n (lv' := [(3, .int (m_b f b 3)), (2, .int (m_b f b 1)), (0, .ref x), (1, .int (nI b))]) hx hb dX9_reason_19 rfl hl (by decide) rfl (fun ls hl => ?_)
  have hls := hl.1
  refine lv_iload_n hx hb dX9_reason_20 rfl (lv_at hl 1 rfl) ?_
  refine lv_if_ne (tgt := 58) hx hb dX9_reason_21 (by decide) (fun c21_0 => ?_) (fun c21_0 => ?_)
  · skip
    refine lv_iload_n hx hb dX9_reason_58 rfl (lv_at hl 1 rfl) ?_
    refine lv_iconst (v := 2) hx hb dX9_reason_59 rfl ?_
    refine lv_icmp_eq (tgt := 65) hx hb dX9_reason_60 (by decide) (fun c60_1 => ?_) (fun c60_1 => ?_)
    · skip
      obtain ⟨mm, hmm, hg⟩ := hgo c60_1
      refine lv_aload_n hx hb dX9_reason_65 rfl (lv_at hl 2 rfl) ?_
      refine z_get X (hP.at 0 0 rfl rfl) zF_RX9_7_12 rfl dX9_reason_66 ?_
      refine lv_iload_n hx hb dX9_reason_69 rfl (lv_at hl 0 rfl) ?_
      refine z_stk (b := [.int (nI mm), .ref a0]) (by rw [show (m_b f b 3) = nI mm from hg]) ?_
      refine zc_ro (zr_S (As := [.ref a0, .int (nI mm)]) (rest := []) X (m_X9_runs l g a0 f mm (by omega)) zL_RX9_61 (zH.cons (va_P.one (hP.at 1 0 rfl rfl)) zH.nil) hS hA0 hls rfl (Nat.le_of_ble_eq_true rfl) ⟨rfl, rfl, Nat.le_of_ble_eq_true rfl, Nat.le_of_ble_eq_true rfl, (Nat.le_of_ble_eq_true rfl), (Nat.le_of_ble_eq_true rfl)⟩ dX9_reason_70) ?_
      refine zb_ifne (tgt := 80) hx hb dX9_reason_73 (by decide) (fun c73_2 => ?_) (fun c73_2 => ?_)
      · skip
        refine lv_aload_n hx hb dX9_reason_80 rfl (lv_at hl 2 rfl) ?_
        refine z_get X (hP.at 0 0 rfl rfl) zF_RX9_7_12 rfl dX9_reason_81 ?_
        refine lv_iload_n hx hb dX9_reason_84 rfl (lv_at hl 0 rfl) ?_
        refine z_stk (b := [.int (nI mm), .ref a0]) (by rw [show (m_b f b 3) = nI mm from hg]) ?_
        refine zc_ro (zr_S (As := [.ref a0, .int (nI mm)]) (rest := []) X (m_X9_isStopped l g a0 f mm (by omega)) zL_RX9_65 (zH.cons (va_P.one (hP.at 1 0 rfl rfl)) zH.nil) hS hA0 hls rfl (Nat.le_of_ble_eq_true rfl) ⟨rfl, rfl, Nat.le_of_ble_eq_true rfl, Nat.le_of_ble_eq_true rfl, (Nat.le_of_ble_eq_true rfl), (Nat.le_of_ble_eq_true rfl)⟩ dX9_reason_85) ?_
        refine zb_ifeq (tgt := 95) hx hb dX9_reason_88 (by decide) (fun c88_3 => ?_) (fun c88_3 => ?_)
        · skip
          refine lv_aload_n hx hb dX9_reason_95 rfl (lv_at hl 2 rfl) ?_
          refine z_get X (hP.at 0 0 rfl rfl) zF_RX9_7_12 rfl dX9_reason_96 ?_
          refine lv_iload_n hx hb dX9_reason_99 rfl (lv_at hl 0 rfl) ?_
          refine lv_iconst (v := 0) hx hb dX9_reason_100 rfl ?_
          refine z_stk (b := [.int 0, .int (nI mm), .ref a0]) (by rw [show (m_b f b 3) = nI mm from hg]) ?_
          refine zc_ro (zr_S (As := [.ref a0, .int (nI mm), .int 0]) (rest := []) X (m_X9_meadowIn l g a0 f mm 0 (by omega)) zL_RX9_54 (zH.cons (va_P.one (hP.at 1 0 rfl rfl)) zH.nil) hS hA0 hls rfl (Nat.le_of_ble_eq_true rfl) ⟨rfl, rfl, Nat.le_of_ble_eq_true rfl, Nat.le_of_ble_eq_true rfl, (Nat.le_of_ble_eq_true rfl), (Nat.le_of_ble_eq_true rfl)⟩ dX9_reason_101) ?_
          refine lv_aload_n hx hb dX9_reason_104 rfl (lv_at hl 2 rfl) ?_
          refine z_get X (hP.at 0 0 rfl rfl) zF_RX9_7_12 rfl dX9_reason_105 ?_
          refine lv_iload_n hx hb dX9_reason_108 rfl (lv_at hl 0 rfl) ?_
          refine lv_iconst (v := 1) hx hb dX9_reason_109 rfl ?_
          refine z_stk (b := [.int 1, .int (nI mm), .ref a0, .int (m_m f mm 0)]) (by rw [show (m_b f b 3) = nI mm from hg]) ?_
          refine zc_ro (zr_S (As := [.ref a0, .int (nI mm), .int 1]) (rest := [.int (m_m f mm 0)]) X (m_X9_meadowIn l g a0 f mm 1 (by omega)) zL_RX9_54 (zH.cons (va_P.one (hP.at 1 0 rfl rfl)) zH.nil) hS hA0 hls rfl (Nat.le_of_ble_eq_true rfl) ⟨rfl, rfl, Nat.le_of_ble_eq_true rfl, Nat.le_of_ble_eq_true rfl, (Nat.le_of_ble_eq_true rfl), (Nat.le_of_ble_eq_true rfl)⟩ dX9_reason_110) ?_
          refine lv_icmp_gt (tgt := 120) hx hb dX9_reason_113 (by decide) (fun c113_4 => ?_) (fun c113_4 => ?_)
          · skip
            refine lv_aload_n hx hb dX9_reason_120 rfl (lv_at hl 2 rfl) ?_
            refine z_get X (hP.at 0 0 rfl rfl) zF_RX9_7_12 rfl dX9_reason_121 ?_
            refine lv_iload_n hx hb dX9_reason_124 rfl (lv_at hl 0 rfl) ?_
            refine z_stk (b := [.int (nI mm), .ref a0]) (by rw [show (m_b f b 3) = nI mm from hg]) ?_
            refine zc_ro (zr_S (As := [.ref a0, .int (nI mm)]) (rest := []) X (m_X9_isTooWet l g a0 f mm (by omega)) zL_RX9_75 (zH.cons (va_P.one (hP.at 1 0 rfl rfl)) zH.nil) hS hA0 hls rfl (Nat.le_of_ble_eq_true rfl) ⟨rfl, rfl, Nat.le_of_ble_eq_true rfl, Nat.le_of_ble_eq_true rfl, (Nat.le_of_ble_eq_true rfl), (Nat.le_of_ble_eq_true rfl)⟩ dX9_reason_125) ?_
            refine zb_ifeq (tgt := 136) hx hb dX9_reason_128 (by decide) (fun c128_5 => ?_) (fun c128_5 => ?_)
            · skip
              refine lv_bipush (v := 8) hx hb dX9_reason_136 (by decide) ?_
              refine zRO.iret X hr hlocks ?_ dX9_reason_138
              unfold m_reason
              try rw [show (m_b f b 3).toNatClampNeg = mm by rw [hg]; exact nI_clamp (by omega)]
              simp only [if_neg c21_0, if_pos c60_1, c73_2, c88_3, if_pos c113_4, c128_5, Bool.false_eq_true, if_false, if_true]
            · skip
              refine lv_bipush (v := 6) hx hb dX9_reason_131 (by decide) ?_
              refine lv_goto (tgt := 138) hx hb dX9_reason_133 (by decide) ?_
              refine zRO.iret X hr hlocks ?_ dX9_reason_138
              unfold m_reason
              try rw [show (m_b f b 3).toNatClampNeg = mm by rw [hg]; exact nI_clamp (by omega)]
              simp only [if_neg c21_0, if_pos c60_1, c73_2, c88_3, if_pos c113_4, c128_5, Bool.false_eq_true, if_false, if_true]
          · skip
            refine lv_iconst (v := 5) hx hb dX9_reason_116 rfl ?_
            refine lv_goto (tgt := 138) hx hb dX9_reason_117 (by decide) ?_
            refine zRO.iret X hr hlocks ?_ dX9_reason_138
            unfold m_reason
            try rw [show (m_b f b 3).toNatClampNeg = mm by rw [hg]; exact nI_clamp (by omega)]
            simp only [if_neg c21_0, if_pos c60_1, c73_2, c88_3, if_neg c113_4, Bool.false_eq_true, if_false, if_true]
        · skip
          refine lv_iconst (v := 4) hx hb dX9_reason_91 rfl ?_
          refine lv_goto (tgt := 138) hx hb dX9_reason_92 (by decide) ?_
          refine zRO.iret X hr hlocks ?_ dX9_reason_138
          unfold m_reason
          try rw [show (m_b f b 3).toNatClampNeg = mm by rw [hg]; exact nI_clamp (by omega)]
          simp only [if_neg c21_0, if_pos c60_1, c73_2, c88_3, Bool.false_eq_true, if_false, if_true]
      · skip
        refine lv_iconst (v := 3) hx hb dX9_reason_76 rfl ?_
        refine lv_goto (tgt := 138) hx hb dX9_reason_77 (by decide) ?_
        refine zRO.iret X hr hlocks ?_ dX9_reason_138
        unfold m_reason
        try rw [show (m_b f b 3).toNatClampNeg = mm by rw [hg]; exact nI_clamp (by omega)]
        simp only [if_neg c21_0, if_pos c60_1, c73_2, Bool.false_eq_true, if_false, if_true]
    · skip
      refine lv_iconst (v := 0) hx hb dX9_reason_63 rfl ?_
      refine zRO.iret X hr hlocks ?_ dX9_reason_64
      unfold m_reason
      try rw [show (m_b f b 3).toNatClampNeg = mm by rw [hg]; exact nI_clamp (by omega)]
      simp only [if_neg c21_0, if_neg c60_1, Bool.false_eq_true, if_false, if_true]
  · skip
    refine lv_aload_n hx hb dX9_reason_24 rfl (lv_at hl 2 rfl) ?_
    refine z_get X (hP.at 0 0 rfl rfl) zF_RX9_7_12 rfl dX9_reason_25 ?_
    refine lv_iload_n hx hb dX9_reason_28 rfl (lv_at hl 3 rfl) ?_
    refine zc_ro (zr_S (As := [.ref a0, .int (nI b)]) (rest := []) X (m_X9_wantsToGo l g a0 f b r (by omega) (by omega) (by first | exact h5c | exact h5 | (simp (disch := omega) only [upd_n]; first | exact h5c | exact h5))) zL_RX9_108 (zH.cons (va_P.one (hP.at 1 0 rfl rfl)) zH.nil) hS hA0 hls rfl (Nat.le_of_ble_eq_true rfl) ⟨rfl, rfl, Nat.le_of_ble_eq_true rfl, Nat.le_of_ble_eq_true rfl, (Nat.le_of_ble_eq_true rfl), (Nat.le_of_ble_eq_true rfl)⟩ dX9_reason_29) ?_
    refine zb_ifne (tgt := 39) hx hb dX9_reason_32 (by decide) (fun c32_6 => ?_) (fun c32_6 => ?_)
    · skip
      refine lv_aload_n hx hb dX9_reason_39 rfl (lv_at hl 2 rfl) ?_
      refine z_get X (hP.at 0 0 rfl rfl) zF_RX9_7_12 rfl dX9_reason_40 ?_
      refine lv_iload_n hx hb dX9_reason_43 rfl (lv_at hl 3 rfl) ?_
      refine zc_ro (zr_S (As := [.ref a0, .int (nI b)]) (rest := []) X (m_X9_goal l g a0 f b n (by omega) (by omega) (by first | exact h6c | exact h6 | (simp (disch := omega) only [upd_n]; first | exact h6c | exact h6))) zL_RX9_88 (zH.cons (va_P.one (hP.at 1 0 rfl rfl)) zH.nil) hS hA0 hls rfl (Nat.le_of_ble_eq_true rfl) ⟨rfl, rfl, Nat.le_of_ble_eq_true rfl, Nat.le_of_ble_eq_true rfl, (Nat.le_of_ble_eq_true rfl), (Nat.le_of_ble_eq_true rfl)⟩ dX9_reason_44) ?_
      refine lv_iconst (v := (-1)) hx hb dX9_reason_47 rfl ?_
      refine lv_icmp_ne (tgt := 55) hx hb dX9_reason_48 (by decide) (fun c48_7 => ?_) (fun c48_7 => ?_)
      · skip
        refine lv_bipush (v := 7) hx hb dX9_reason_55 (by decide) ?_
        refine zRO.iret X hr hlocks ?_ dX9_reason_57
        unfold m_reason
        try rw [show (m_b f b 3).toNatClampNeg = mm by rw [hg]; exact nI_clamp (by omega)]
        simp only [if_pos c21_0, c32_6, if_neg c48_7, Bool.false_eq_true, if_false, if_true]
      · skip
        refine lv_iconst (v := 2) hx hb dX9_reason_51 rfl ?_
        refine lv_goto (tgt := 57) hx hb dX9_reason_52 (by decide) ?_
        refine zRO.iret X hr hlocks ?_ dX9_reason_57
        unfold m_reason
        try rw [show (m_b f b 3).toNatClampNeg = mm by rw [hg]; exact nI_clamp (by omega)]
        simp only [if_pos c21_0, c32_6, if_pos c48_7, Bool.false_eq_true, if_false, if_true]
    · skip
      refine lv_iconst (v := 1) hx hb dX9_reason_35 rfl ?_
      refine lv_goto (tgt := 57) hx hb dX9_reason_36 (by decide) ?_
      refine zRO.iret X hr hlocks ?_ dX9_reason_57
      unfold m_reason
      try rw [show (m_b f b 3).toNatClampNeg = mm by rw [hg]; exact nI_clamp (by omega)]
      simp only [if_pos c21_0, c32_6, Bool.false_eq_true, if_false, if_true]

abbrev rm_X9_ofBarge : Room := { frames := 5, cells := 0, slots := 0, locals := 112 }
set_option maxHeartbeats 4000000 in
set_option maxRecDepth 100000 in
theorem m_X9_ofBarge (l : Launch) (g : zG) (x a0 a1 a2 a3 a4 a5 a6 : Nat) (k ty at_ tl : Nat) (thr val : Int32) (bF bC : Bool) (f : Nat → Int32) (b w : Nat) (n r : Nat) (hn : n ≤ 4) (h6 : f 6 = nI n) (hr6 : r < 6) (h5 : f 5 = nI r) (hb4 : b < 4) (hw : w < 8) (hgo : m_b f b 1 = 2 → ∃ mm, mm < 5 ∧ m_b f b 3 = nI mm) : zRO l yX9_ofBarge cX9_ofBarge 3 (Option.some Jvm.ClassFile.FieldType.int) rm_X9_ofBarge g [.ref x, .int (nI b), .int (nI w)] (fun H => zH g ([[(x, .inr (12, [.ref a0, .ref a1, .ref a2, .int (nI k), .ref a3, .ref a4, .ref a5, .int (nI ty), .int thr, .int (nI at_), .int (zb bF), .int val, .ref a6, .int (nI tl), .int (zb bC)]))], [(a0, .inl (g.2.1 0, 89, .inl f))]] : List va_W) H) (.int (m_ofB f n r b w)) := by
  refine zRO.start (by decide) (Nat.le_of_ble_eq_true rfl) ?_
  intro zp ze s zm zbl zmt zc ls X hr hlocks hP hl hS hA0
  have hx := X.1
  have hb := X.2.1
  have hml := X.2.2.1
  have hown := X.2.2.2.1
  have hls := hl.1
  have hl : lv_has ls 3 [(0, .ref x), (1, .int (nI b)), (2, .int (nI w))] := hl
  refine lv_iload_n hx hb dX9_ofBarge_0 rfl (lv_at hl 2 rfl) ?_
  refine lv_bipush (v := 6) hx hb dX9_ofBarge_1 (by decide) ?_
  refine lv_icmp_ge (tgt := 18) hx hb dX9_ofBarge_3 (by decide) (fun c3_0 => ?_) (fun c3_0 => ?_)
  · skip
    have kc3_0 := (zn_le (a := 6) (b := w) rfl rfl (by omega) (by omega)).mp c3_0
    refine lv_iload_n hx hb dX9_ofBarge_18 rfl (lv_at hl 2 rfl) ?_
    refine lv_bipush (v := 6) hx hb dX9_ofBarge_19 (by decide) ?_
    refine lv_icmp_ne (tgt := 32) hx hb dX9_ofBarge_21 (by decide) (fun c21_1 => ?_) (fun c21_1 => ?_)
    · skip
      have kc21_1 := mt (zn_eq (a := w) (b := 6) rfl rfl (by omega) (by omega)).mpr c21_1
      refine lv_aload_n hx hb dX9_ofBarge_32 rfl (lv_at hl 0 rfl) ?_
      refine z_get X (hP.at 0 0 rfl rfl) zF_RX9_7_12 rfl dX9_ofBarge_33 ?_
      refine lv_iload_n hx hb dX9_ofBarge_36 rfl (lv_at hl 1 rfl) ?_
      refine lv_bipush (v := 6) hx hb dX9_ofBarge_37 (by decide) ?_
      refine zc_ro (zr_S (As := [.ref a0, .int (nI b), .int 6]) (rest := []) X (m_X9_bargeIn l g a0 f b 6 (by omega)) zL_RX9_58 (zH.cons (va_P.one (hP.at 1 0 rfl rfl)) zH.nil) hS hA0 hls rfl (Nat.le_of_ble_eq_true rfl) ⟨rfl, rfl, Nat.le_of_ble_eq_true rfl, Nat.le_of_ble_eq_true rfl, (Nat.le_of_ble_eq_true rfl), (Nat.le_of_ble_eq_true rfl)⟩ dX9_ofBarge_39) ?_
      refine zRO.iret X hr hlocks ?_ dX9_ofBarge_42
      unfold m_ofB
      first | rw [if_neg (by omega)] | rw [if_pos (by omega), if_pos (by omega)] | rw [if_pos (by omega), if_neg (by omega)]
    · skip
      have kc21_1 := (zn_eq (a := w) (b := 6) rfl rfl (by omega) (by omega)).mp c21_1
      refine lv_aload_n hx hb dX9_ofBarge_24 rfl (lv_at hl 0 rfl) ?_
      refine lv_iload_n hx hb dX9_ofBarge_25 rfl (lv_at hl 1 rfl) ?_
      refine zc_ro (zr_V (As := [.int (nI b)]) (rest := []) X (m_X9_reason l g x a0 a1 a2 a3 a4 a5 a6 k ty at_ tl thr val bF bC f b n r (by omega) (by first | exact h6c | exact h6 | (simp (disch := omega) only [upd_n]; first | exact h6c | exact h6)) (by omega) (by first | exact h5c | exact h5) (by omega) (by first | exact hgo | exact hgo4 _ (by omega))) zL_RX9_194 (ci := 12) rfl (hP.at 0 0 rfl rfl) (zH.cons (va_P.one (hP.at 0 0 rfl rfl)) (zH.cons (va_P.one (hP.at 1 0 rfl rfl)) zH.nil)) hS hA0 hls rfl (Nat.le_of_ble_eq_true rfl) ⟨rfl, rfl, Nat.le_of_ble_eq_true rfl, Nat.le_of_ble_eq_true rfl, (Nat.le_of_ble_eq_true rfl), (Nat.le_of_ble_eq_true rfl)⟩ dX9_ofBarge_26) ?_
      refine lv_goto (tgt := 42) hx hb dX9_ofBarge_29 (by decide) ?_
      refine zRO.iret X hr hlocks ?_ dX9_ofBarge_42
      unfold m_ofB
      first | rw [if_neg (by omega)] | rw [if_pos (by omega), if_pos (by omega)] | rw [if_pos (by omega), if_neg (by omega)]
  · skip
    have kc3_0 := mt (zn_le (a := 6) (b := w) rfl rfl (by omega) (by omega)).mpr c3_0
    refine lv_aload_n hx hb dX9_ofBarge_6 rfl (lv_at hl 0 rfl) ?_
    refine z_get X (hP.at 0 0 rfl rfl) zF_RX9_7_12 rfl dX9_ofBarge_7 ?_
    refine lv_iload_n hx hb dX9_ofBarge_10 rfl (lv_at hl 1 rfl) ?_
    refine lv_iload_n hx hb dX9_ofBarge_11 rfl (lv_at hl 2 rfl) ?_
    refine zc_ro (zr_S (As := [.ref a0, .int (nI b), .int (nI w)]) (rest := []) X (m_X9_bargeIn l g a0 f b w (by omega)) zL_RX9_58 (zH.cons (va_P.one (hP.at 1 0 rfl rfl)) zH.nil) hS hA0 hls rfl (Nat.le_of_ble_eq_true rfl) ⟨rfl, rfl, Nat.le_of_ble_eq_true rfl, Nat.le_of_ble_eq_true rfl, (Nat.le_of_ble_eq_true rfl), (Nat.le_of_ble_eq_true rfl)⟩ dX9_ofBarge_12) ?_
    refine lv_goto (tgt := 42) hx hb dX9_ofBarge_15 (by decide) ?_
    refine zRO.iret X hr hlocks ?_ dX9_ofBarge_42
    unfold m_ofB
    first | rw [if_neg (by omega)] | rw [if_pos (by omega), if_pos (by omega)] | rw [if_pos (by omega), if_neg (by omega)]

abbrev rm_X9_bargeOf_bad1 : Room := { frames := 2, cells := 0, slots := 0, locals := 43 }
set_option maxHeartbeats 4000000 in
set_option maxRecDepth 100000 in
theorem m_X9_bargeOf_bad1 (l : Launch) (g : zG) (x a0 a1 a2 a3 a4 a5 a6 : Nat) (k ty at_ tl : Nat) (thr val : Int32) (bF bC : Bool) (f : Nat → Int32) (b w : Int32) (n : Nat) (h6 : f 6 = nI n) (hbad : m_in b 0 (nI n - 1) = false) (sz : Nat) : zWR l yX9_bargeOf cX9_bargeOf 3 (Option.some Jvm.ClassFile.FieldType.int) rm_X9_bargeOf_bad1 g [.ref x, .int b, .int w] ([[(x, .inr (12, [.ref a0, .ref a1, .ref a2, .int (nI k), .ref a3, .ref a4, .ref a5, .int (nI ty), .int thr, .int (nI at_), .int (zb bF), .int val, .ref a6, .int (nI tl), .int (zb bC)]))], [(a0, .inl (g.2.1 0, 89, .inl f))]] : List va_W) 0 0 sz (fun zv gs' => zv = some (.int (0)) ∧ gs' = [[(x, .inr (12, [.ref a0, .ref a1, .ref a2, .int (nI k), .ref a3, .ref a4, .ref a5, .int (nI ty), .int 1, .int (nI at_), .int (zb bF), .int val, .ref a6, .int (nI tl), .int (zb bC)]))], [(a0, .inl (g.2.1 0, 89, .inl f))]]) := by
  refine zWR.start (by decide) (Nat.le_of_ble_eq_true rfl) ?_
  intro zp ze s zm zbl zmt zc ls A X hr hlocks hinn hl hAe hW hS hA hA0
  have hx := X.1
  have hb := X.2.1
  have hml := X.2.2.1
  have hown := X.2.2.2.1
  have hls := hl.1
  have hl : lv_has ls 3 [(0, .ref x), (1, .int b), (2, .int w)] := hl
  refine lv_aload_n hx hb dX9_bargeOf_0 rfl (lv_at hl 0 rfl) ?_
  refine lv_iconst (v := 0) hx hb dX9_bargeOf_1 rfl ?_
  refine z_put X hW hS 0 0 rfl rfl zP_RX9_32_12 rfl rfl (Nat.le_of_ble_eq_true rfl) dX9_bargeOf_2 (fun H locs hW hS => ?_)
  have hW : zW g A ([[(x, .inr (12, [.ref a0, .ref a1, .ref a2, .int (nI k), .ref a3, .ref a4, .ref a5, .int (nI ty), .int 0, .int (nI at_), .int (zb bF), .int val, .ref a6, .int (nI tl), .int (zb bC)]))], [(a0, .inl (g.2.1 0, 89, .inl f))]] : List va_W) H := hW
  refine lv_aload_n hx hb dX9_bargeOf_5 rfl (lv_at hl 0 rfl) ?_
  refine lv_iload_n hx hb dX9_bargeOf_6 rfl (lv_at hl 1 rfl) ?_
  refine zc_ro (zr_V (As := [.int b]) (rest := []) X (m_X9_isBarge l g x a0 a1 a2 a3 a4 a5 a6 k ty at_ tl 0 val bF bC f b n (by first | exact h6c | exact h6 | (simp (disch := omega) only [upd_n]; first | exact h6c | exact h6))) zL_RX9_118 (ci := 12) rfl (hW.H.at 0 0 rfl rfl) (zH.cons (va_P.one (hW.H.at 0 0 rfl rfl)) (zH.cons (va_P.one (hW.H.at 1 0 rfl rfl)) zH.nil)) hS hA0 hls rfl (Nat.le_of_ble_eq_true rfl) ⟨rfl, rfl, Nat.le_of_ble_eq_true rfl, Nat.le_of_ble_eq_true rfl, (Nat.le_of_ble_eq_true rfl), (Nat.le_of_ble_eq_true rfl)⟩ dX9_bargeOf_7) ?_
  refine zb_ifne (tgt := 19) hx hb dX9_bargeOf_10 (by decide) (fun c10_0 => ?_) (fun c10_0 => ?_)
  · exact absurd (hbad.symm.trans c10_0) (by decide)
  · skip
    refine lv_aload_n hx hb dX9_bargeOf_13 rfl (lv_at hl 0 rfl) ?_
    refine lv_iconst (v := 1) hx hb dX9_bargeOf_14 rfl ?_
    refine zc_wr (gc := [[(x, .inr (12, [.ref a0, .ref a1, .ref a2, .int (nI k), .ref a3, .ref a4, .ref a5, .int (nI ty), .int 0, .int (nI at_), .int (zb bF), .int val, .ref a6, .int (nI tl), .int (zb bC)]))]]) (gr := [[(a0, .inl (g.2.1 0, 89, .inl f))]]) (zr_V (As := [.int 1]) (rest := []) X (m_X9_fails l g x a0 a1 a2 a3 a4 a5 a6 k ty at_ tl 0 val bF bC 1 _) zL_RX9_47 (ci := 12) rfl (hW.H.at 0 0 rfl rfl) (zW.pre (gc := [[(x, .inr (12, [.ref a0, .ref a1, .ref a2, .int (nI k), .ref a3, .ref a4, .ref a5, .int (nI ty), .int 0, .int (nI at_), .int (zb bF), .int val, .ref a6, .int (nI tl), .int (zb bC)]))]]) (gr := [[(a0, .inl (g.2.1 0, 89, .inl f))]]) hW hA0) hS hA0 hls rfl (Nat.le_of_ble_eq_true rfl) ⟨rfl, rfl, Nat.le_of_ble_eq_true rfl, Nat.le_of_ble_eq_true rfl, (Nat.le_of_ble_eq_true rfl), (Nat.le_of_ble_eq_true rfl)⟩ dX9_bargeOf_15) hW hS hA (fun v gc' H locs hpost hW hS => ?_)
    obtain ⟨rfl, rfl⟩ := hpost
    have hW : zW g A ([[(x, .inr (12, [.ref a0, .ref a1, .ref a2, .int (nI k), .ref a3, .ref a4, .ref a5, .int (nI ty), .int 1, .int (nI at_), .int (zb bF), .int val, .ref a6, .int (nI tl), .int (zb bC)]))], [(a0, .inl (g.2.1 0, 89, .inl f))]] : List va_W) H := hW
    refine W.eq (g2 := F0 zm 18 ls [.int 0]) rfl ?_
    refine zWR.iret X hAe hW hS hr hlocks ?_ (Nat.le_of_ble_eq_true rfl) (Nat.le_of_ble_eq_true rfl) dX9_bargeOf_18
    exact ⟨rfl, rfl⟩

abbrev rm_X9_bargeOf_bad2 : Room := { frames := 2, cells := 0, slots := 0, locals := 43 }
set_option maxHeartbeats 4000000 in
set_option maxRecDepth 100000 in
theorem m_X9_bargeOf_bad2 (l : Launch) (g : zG) (x a0 a1 a2 a3 a4 a5 a6 : Nat) (k ty at_ tl : Nat) (thr val : Int32) (bF bC : Bool) (f : Nat → Int32) (b : Nat) (w : Int32) (n : Nat) (hn : n ≤ 4) (h6 : f 6 = nI n) (hb4 : b < n) (hbad : m_in w 0 7 = false) (sz : Nat) : zWR l yX9_bargeOf cX9_bargeOf 3 (Option.some Jvm.ClassFile.FieldType.int) rm_X9_bargeOf_bad2 g [.ref x, .int (nI b), .int w] ([[(x, .inr (12, [.ref a0, .ref a1, .ref a2, .int (nI k), .ref a3, .ref a4, .ref a5, .int (nI ty), .int thr, .int (nI at_), .int (zb bF), .int val, .ref a6, .int (nI tl), .int (zb bC)]))], [(a0, .inl (g.2.1 0, 89, .inl f))]] : List va_W) 0 0 sz (fun zv gs' => zv = some (.int (0)) ∧ gs' = [[(x, .inr (12, [.ref a0, .ref a1, .ref a2, .int (nI k), .ref a3, .ref a4, .ref a5, .int (nI ty), .int 2, .int (nI at_), .int (zb bF), .int val, .ref a6, .int (nI tl), .int (zb bC)]))], [(a0, .inl (g.2.1 0, 89, .inl f))]]) := by
  refine zWR.start (by decide) (Nat.le_of_ble_eq_true rfl) ?_
  intro zp ze s zm zbl zmt zc ls A X hr hlocks hinn hl hAe hW hS hA hA0
  have hx := X.1
  have hb := X.2.1
  have hml := X.2.2.1
  have hown := X.2.2.2.1
  have hls := hl.1
  have hl : lv_has ls 3 [(0, .ref x), (1, .int (nI b)), (2, .int w)] := hl
  refine lv_aload_n hx hb dX9_bargeOf_0 rfl (lv_at hl 0 rfl) ?_
  refine lv_iconst (v := 0) hx hb dX9_bargeOf_1 rfl ?_
  refine z_put X hW hS 0 0 rfl rfl zP_RX9_32_12 rfl rfl (Nat.le_of_ble_eq_true rfl) dX9_bargeOf_2 (fun H locs hW hS => ?_)
  have hW : zW g A ([[(x, .inr (12, [.ref a0, .ref a1, .ref a2, .int (nI k), .ref a3, .ref a4, .ref a5, .int (nI ty), .int 0, .int (nI at_), .int (zb bF), .int val, .ref a6, .int (nI tl), .int (zb bC)]))], [(a0, .inl (g.2.1 0, 89, .inl f))]] : List va_W) H := hW
  refine lv_aload_n hx hb dX9_bargeOf_5 rfl (lv_at hl 0 rfl) ?_
  refine lv_iload_n hx hb dX9_bargeOf_6 rfl (lv_at hl 1 rfl) ?_
  refine zc_ro (zr_V (As := [.int (nI b)]) (rest := []) X (m_X9_isBarge l g x a0 a1 a2 a3 a4 a5 a6 k ty at_ tl 0 val bF bC f (nI b) n (by first | exact h6c | exact h6 | (simp (disch := omega) only [upd_n]; first | exact h6c | exact h6))) zL_RX9_118 (ci := 12) rfl (hW.H.at 0 0 rfl rfl) (zH.cons (va_P.one (hW.H.at 0 0 rfl rfl)) (zH.cons (va_P.one (hW.H.at 1 0 rfl rfl)) zH.nil)) hS hA0 hls rfl (Nat.le_of_ble_eq_true rfl) ⟨rfl, rfl, Nat.le_of_ble_eq_true rfl, Nat.le_of_ble_eq_true rfl, (Nat.le_of_ble_eq_true rfl), (Nat.le_of_ble_eq_true rfl)⟩ dX9_bargeOf_7) ?_
  refine zb_ifne (tgt := 19) hx hb dX9_bargeOf_10 (by decide) (fun c10_0 => ?_) (fun c10_0 => ?_)
  · skip
    refine lv_iload_n hx hb dX9_bargeOf_19 rfl (lv_at hl 2 rfl) ?_
    refine lv_iconst (v := 0) hx hb dX9_bargeOf_20 rfl ?_
    refine lv_bipush (v := 7) hx hb dX9_bargeOf_21 (by decide) ?_
    refine zc_ro (zr_S (As := [.int w, .int 0, .int 7]) (rest := []) X (m_X9_in l g w 0 7) zL_RX9_36 trivial hS hA0 hls rfl (Nat.le_of_ble_eq_true rfl) ⟨rfl, rfl, Nat.le_of_ble_eq_true rfl, Nat.le_of_ble_eq_true rfl, (Nat.le_of_ble_eq_true rfl), (Nat.le_of_ble_eq_true rfl)⟩ dX9_bargeOf_23) ?_
    refine zb_ifeq (tgt := 38) hx hb dX9_bargeOf_26 (by decide) (fun c26_1 => ?_) (fun c26_1 => ?_)
    · skip
      refine lv_aload_n hx hb dX9_bargeOf_38 rfl (lv_at hl 0 rfl) ?_
      refine lv_iconst (v := 2) hx hb dX9_bargeOf_39 rfl ?_
      refine zc_wr (gc := [[(x, .inr (12, [.ref a0, .ref a1, .ref a2, .int (nI k), .ref a3, .ref a4, .ref a5, .int (nI ty), .int 0, .int (nI at_), .int (zb bF), .int val, .ref a6, .int (nI tl), .int (zb bC)]))]]) (gr := [[(a0, .inl (g.2.1 0, 89, .inl f))]]) (zr_V (As := [.int 2]) (rest := []) X (m_X9_fails l g x a0 a1 a2 a3 a4 a5 a6 k ty at_ tl 0 val bF bC 2 _) zL_RX9_47 (ci := 12) rfl (hW.H.at 0 0 rfl rfl) (zW.pre (gc := [[(x, .inr (12, [.ref a0, .ref a1, .ref a2, .int (nI k), .ref a3, .ref a4, .ref a5, .int (nI ty), .int 0, .int (nI at_), .int (zb bF), .int val, .ref a6, .int (nI tl), .int (zb bC)]))]]) (gr := [[(a0, .inl (g.2.1 0, 89, .inl f))]]) hW hA0) hS hA0 hls rfl (Nat.le_of_ble_eq_true rfl) ⟨rfl, rfl, Nat.le_of_ble_eq_true rfl, Nat.le_of_ble_eq_true rfl, (Nat.le_of_ble_eq_true rfl), (Nat.le_of_ble_eq_true rfl)⟩ dX9_bargeOf_40) hW hS hA (fun v gc' H locs hpost hW hS => ?_)
      obtain ⟨rfl, rfl⟩ := hpost
      have hW : zW g A ([[(x, .inr (12, [.ref a0, .ref a1, .ref a2, .int (nI k), .ref a3, .ref a4, .ref a5, .int (nI ty), .int 2, .int (nI at_), .int (zb bF), .int val, .ref a6, .int (nI tl), .int (zb bC)]))], [(a0, .inl (g.2.1 0, 89, .inl f))]] : List va_W) H := hW
      refine W.eq (g2 := F0 zm 43 ls [.int 0]) rfl ?_
      refine zWR.iret X hAe hW hS hr hlocks ?_ (Nat.le_of_ble_eq_true rfl) (Nat.le_of_ble_eq_true rfl) dX9_bargeOf_43
      exact ⟨rfl, rfl⟩
    · exact absurd (hbad.symm.trans c26_1) (by decide)
  · exact absurd ((m_in_T (a := 0) (b := n - 1) rfl rfl (nI_sub (b := 1) (by omega)) (by omega) (by omega) (by omega)).symm.trans c10_0) (by decide)

abbrev rm_X9_bargeOf_ok : Room := { frames := 6, cells := 0, slots := 0, locals := 134 }
set_option maxHeartbeats 4000000 in
set_option maxRecDepth 100000 in
theorem m_X9_bargeOf_ok (l : Launch) (g : zG) (x a0 a1 a2 a3 a4 a5 a6 : Nat) (k ty at_ tl : Nat) (thr val : Int32) (bF bC : Bool) (f : Nat → Int32) (b w : Nat) (n r : Nat) (hn : n ≤ 4) (h6 : f 6 = nI n) (hr6 : r < 6) (h5 : f 5 = nI r) (hb4 : b < n) (hw : w < 8) (hgo : m_b f b 1 = 2 → ∃ mm, mm < 5 ∧ m_b f b 3 = nI mm) (sz : Nat) : zWR l yX9_bargeOf cX9_bargeOf 3 (Option.some Jvm.ClassFile.FieldType.int) rm_X9_bargeOf_ok g [.ref x, .int (nI b), .int (nI w)] ([[(x, .inr (12, [.ref a0, .ref a1, .ref a2, .int (nI k), .ref a3, .ref a4, .ref a5, .int (nI ty), .int thr, .int (nI at_), .int (zb bF), .int val, .ref a6, .int (nI tl), .int (zb bC)]))], [(a0, .inl (g.2.1 0, 89, .inl f))]] : List va_W) 0 0 sz (fun zv gs' => zv = some (.int (m_ofB f n r b w)) ∧ gs' = [[(x, .inr (12, [.ref a0, .ref a1, .ref a2, .int (nI k), .ref a3, .ref a4, .ref a5, .int (nI ty), .int 0, .int (nI at_), .int (zb bF), .int val, .ref a6, .int (nI tl), .int (zb bC)]))], [(a0, .inl (g.2.1 0, 89, .inl f))]]) := by
  refine zWR.start (by decide) (Nat.le_of_ble_eq_true rfl) ?_
  intro zp ze s zm zbl zmt zc ls A X hr hlocks hinn hl hAe hW hS hA hA0
  have hx := X.1
  have hb := X.2.1
  have hml := X.2.2.1
  have hown := X.2.2.2.1
  have hls := hl.1
  have hl : lv_has ls 3 [(0, .ref x), (1, .int (nI b)), (2, .int (nI w))] := hl
  refine lv_aload_n hx hb dX9_bargeOf_0 rfl (lv_at hl 0 rfl) ?_
  refine lv_iconst (v := 0) hx hb dX9_bargeOf_1 rfl ?_
  refine z_put X hW hS 0 0 rfl rfl zP_RX9_32_12 rfl rfl (Nat.le_of_ble_eq_true rfl) dX9_bargeOf_2 (fun H locs hW hS => ?_)
  have hW : zW g A ([[(x, .inr (12, [.ref a0, .ref a1, .ref a2, .int (nI k), .ref a3, .ref a4, .ref a5, .int (nI ty), .int 0, .int (nI at_), .int (zb bF), .int val, .ref a6, .int (nI tl), .int (zb bC)]))], [(a0, .inl (g.2.1 0, 89, .inl f))]] : List va_W) H := hW
  refine lv_aload_n hx hb dX9_bargeOf_5 rfl (lv_at hl 0 rfl) ?_
  refine lv_iload_n hx hb dX9_bargeOf_6 rfl (lv_at hl 1 rfl) ?_
  refine zc_ro (zr_V (As := [.int (nI b)]) (rest := []) X (m_X9_isBarge l g x a0 a1 a2 a3 a4 a5 a6 k ty at_ tl 0 val bF bC f (nI b) n (by first | exact h6c | exact h6 | (simp (disch := omega) only [upd_n]; first | exact h6c | exact h6))) zL_RX9_118 (ci := 12) rfl (hW.H.at 0 0 rfl rfl) (zH.cons (va_P.one (hW.H.at 0 0 rfl rfl)) (zH.cons (va_P.one (hW.H.at 1 0 rfl rfl)) zH.nil)) hS hA0 hls rfl (Nat.le_of_ble_eq_true rfl) ⟨rfl, rfl, Nat.le_of_ble_eq_true rfl, Nat.le_of_ble_eq_true rfl, (Nat.le_of_ble_eq_true rfl), (Nat.le_of_ble_eq_true rfl)⟩ dX9_bargeOf_7) ?_
  refine zb_ifne (tgt := 19) hx hb dX9_bargeOf_10 (by decide) (fun c10_0 => ?_) (fun c10_0 => ?_)
  · skip
    refine lv_iload_n hx hb dX9_bargeOf_19 rfl (lv_at hl 2 rfl) ?_
    refine lv_iconst (v := 0) hx hb dX9_bargeOf_20 rfl ?_
    refine lv_bipush (v := 7) hx hb dX9_bargeOf_21 (by decide) ?_
    refine zc_ro (zr_S (As := [.int (nI w), .int 0, .int 7]) (rest := []) X (m_X9_in l g (nI w) 0 7) zL_RX9_36 trivial hS hA0 hls rfl (Nat.le_of_ble_eq_true rfl) ⟨rfl, rfl, Nat.le_of_ble_eq_true rfl, Nat.le_of_ble_eq_true rfl, (Nat.le_of_ble_eq_true rfl), (Nat.le_of_ble_eq_true rfl)⟩ dX9_bargeOf_23) ?_
    refine zb_ifeq (tgt := 38) hx hb dX9_bargeOf_26 (by decide) (fun c26_1 => ?_) (fun c26_1 => ?_)
    · exact absurd ((m_in_T (a := 0) (b := 7) rfl rfl rfl (by omega) (by omega) (by decide)).symm.trans c26_1) (by decide)
    · skip
      refine lv_aload_n hx hb dX9_bargeOf_29 rfl (lv_at hl 0 rfl) ?_
      refine lv_iload_n hx hb dX9_bargeOf_30 rfl (lv_at hl 1 rfl) ?_
      refine lv_iload_n hx hb dX9_bargeOf_31 rfl (lv_at hl 2 rfl) ?_
      refine zc_ro (zr_V (As := [.int (nI b), .int (nI w)]) (rest := []) X (m_X9_ofBarge l g x a0 a1 a2 a3 a4 a5 a6 k ty at_ tl 0 val bF bC f b w n r (by omega) (by first | exact h6c | exact h6 | (simp (disch := omega) only [upd_n]; first | exact h6c | exact h6)) (by omega) (by first | exact h5c | exact h5) (by omega) (by omega) (by first | exact hgo | exact hgo4 _ (by omega))) zL_RX9_197 (ci := 12) rfl (hW.H.at 0 0 rfl rfl) (zH.cons (va_P.one (hW.H.at 0 0 rfl rfl)) (zH.cons (va_P.one (hW.H.at 1 0 rfl rfl)) zH.nil)) hS hA0 hls rfl (Nat.le_of_ble_eq_true rfl) ⟨rfl, rfl, Nat.le_of_ble_eq_true rfl, Nat.le_of_ble_eq_true rfl, (Nat.le_of_ble_eq_true rfl), (Nat.le_of_ble_eq_true rfl)⟩ dX9_bargeOf_32) ?_
      refine lv_goto (tgt := 43) hx hb dX9_bargeOf_35 (by decide) ?_
      refine zWR.iret X hAe hW hS hr hlocks ?_ (Nat.le_of_ble_eq_true rfl) (Nat.le_of_ble_eq_true rfl) dX9_bargeOf_43
      exact ⟨rfl, rfl⟩
  · exact absurd ((m_in_T (a := 0) (b := n - 1) rfl rfl (nI_sub (b := 1) (by omega)) (by omega) (by omega) (by omega)).symm.trans c10_0) (by decide)

abbrev rm_X9_ofMeadow : Room := { frames := 3, cells := 0, slots := 0, locals := 64 }
set_option maxHeartbeats 4000000 in
set_option maxRecDepth 100000 in
theorem m_X9_ofMeadow (l : Launch) (g : zG) (x a0 a1 a2 a3 a4 a5 a6 : Nat) (k ty at_ tl : Nat) (thr val : Int32) (bF bC : Bool) (f : Nat → Int32) (m w n : Nat) (hm : m < 5) (hw : w < 9) (hn : n ≤ 4) (h6 : f 6 = nI n) : zRO l yX9_ofMeadow cX9_ofMeadow 3 (Option.some Jvm.ClassFile.FieldType.int) rm_X9_ofMeadow g [.ref x, .int (nI m), .int (nI w)] (fun H => zH g ([[(x, .inr (12, [.ref a0, .ref a1, .ref a2, .int (nI k), .ref a3, .ref a4, .ref a5, .int (nI ty), .int thr, .int (nI at_), .int (zb bF), .int val, .ref a6, .int (nI tl), .int (zb bC)]))], [(a0, .inl (g.2.1 0, 89, .inl f))]] : List va_W) H) (.int (m_ofM f n m w)) := by
  refine zRO.start (by decide) (Nat.le_of_ble_eq_true rfl) ?_
  intro zp ze s zm zbl zmt zc ls X hr hlocks hP hl hS hA0
  have hx := X.1
  have hb := X.2.1
  have hml := X.2.2.1
  have hown := X.2.2.2.1
  have hls := hl.1
  have hl : lv_has ls 3 [(0, .ref x), (1, .int (nI m)), (2, .int (nI w))] := hl
  refine lv_iload_n hx hb dX9_ofMeadow_0 rfl (lv_at hl 2 rfl) ?_
  refine lv_iconst (v := 5) hx hb dX9_ofMeadow_1 rfl ?_
  refine lv_icmp_ne (tgt := 13) hx hb dX9_ofMeadow_2 (by decide) (fun c2_0 => ?_) (fun c2_0 => ?_)
  · skip
    have kc2_0 := mt (zn_eq (a := w) (b := 5) rfl rfl (by omega) (by omega)).mpr c2_0
    refine lv_iload_n hx hb dX9_ofMeadow_13 rfl (lv_at hl 2 rfl) ?_
    refine lv_bipush (v := 7) hx hb dX9_ofMeadow_14 (by decide) ?_
    refine lv_icmp_ne (tgt := 30) hx hb dX9_ofMeadow_16 (by decide) (fun c16_1 => ?_) (fun c16_1 => ?_)
    · skip
      have kc16_1 := mt (zn_eq (a := w) (b := 7) rfl rfl (by omega) (by omega)).mpr c16_1
      refine lv_iload_n hx hb dX9_ofMeadow_30 rfl (lv_at hl 2 rfl) ?_
      refine lv_bipush (v := 8) hx hb dX9_ofMeadow_31 (by decide) ?_
      refine lv_icmp_ne (tgt := 55) hx hb dX9_ofMeadow_33 (by decide) (fun c33_2 => ?_) (fun c33_2 => ?_)
      · skip
        have kc33_2 := mt (zn_eq (a := w) (b := 8) rfl rfl (by omega) (by omega)).mpr c33_2
        refine lv_aload_n hx hb dX9_ofMeadow_55 rfl (lv_at hl 0 rfl) ?_
        refine z_get X (hP.at 0 0 rfl rfl) zF_RX9_7_12 rfl dX9_ofMeadow_56 ?_
        refine lv_iload_n hx hb dX9_ofMeadow_59 rfl (lv_at hl 1 rfl) ?_
        refine lv_iload_n hx hb dX9_ofMeadow_60 rfl (lv_at hl 2 rfl) ?_
        refine zc_ro (zr_S (As := [.ref a0, .int (nI m), .int (nI w)]) (rest := []) X (m_X9_meadowIn l g a0 f m w (by omega)) zL_RX9_54 (zH.cons (va_P.one (hP.at 1 0 rfl rfl)) zH.nil) hS hA0 hls rfl (Nat.le_of_ble_eq_true rfl) ⟨rfl, rfl, Nat.le_of_ble_eq_true rfl, Nat.le_of_ble_eq_true rfl, (Nat.le_of_ble_eq_true rfl), (Nat.le_of_ble_eq_true rfl)⟩ dX9_ofMeadow_61) ?_
        refine zRO.iret X hr hlocks ?_ dX9_ofMeadow_64
        unfold m_ofM
        first | rw [if_pos (by omega)] | rw [if_neg (by omega), if_pos (by omega)] | (rw [if_neg (by omega), if_neg (by omega), if_pos (by omega)]; simp [c2_0, c16_1, c33_2]; done) | rw [if_neg (by omega), if_neg (by omega), if_neg (by omega)]
      · skip
        have kc33_2 := (zn_eq (a := w) (b := 8) rfl rfl (by omega) (by omega)).mp c33_2
        refine lv_aload_n hx hb dX9_ofMeadow_36 rfl (lv_at hl 0 rfl) ?_
        refine z_get X (hP.at 0 0 rfl rfl) zF_RX9_7_12 rfl dX9_ofMeadow_37 ?_
        refine lv_iload_n hx hb dX9_ofMeadow_40 rfl (lv_at hl 1 rfl) ?_
        refine zc_ro (zr_S (As := [.ref a0, .int (nI m)]) (rest := []) X (m_X9_isOpen l g a0 f m (by omega)) zL_RX9_78 (zH.cons (va_P.one (hP.at 1 0 rfl rfl)) zH.nil) hS hA0 hls rfl (Nat.le_of_ble_eq_true rfl) ⟨rfl, rfl, Nat.le_of_ble_eq_true rfl, Nat.le_of_ble_eq_true rfl, (Nat.le_of_ble_eq_true rfl), (Nat.le_of_ble_eq_true rfl)⟩ dX9_ofMeadow_41) ?_
        refine zb_ifeq (tgt := 51) hx hb dX9_ofMeadow_44 (by decide) (fun c44_3 => ?_) (fun c44_3 => ?_)
        · skip
          refine lv_iconst (v := 0) hx hb dX9_ofMeadow_51 rfl ?_
          refine lv_goto (tgt := 64) hx hb dX9_ofMeadow_52 (by decide) ?_
          refine zRO.iret X hr hlocks ?_ dX9_ofMeadow_64
          unfold m_ofM
          first | rw [if_pos (by omega)] | rw [if_neg (by omega), if_pos (by omega)] | (rw [if_neg (by omega), if_neg (by omega), if_pos (by omega)]; simp [c2_0, c16_1, c33_2, c44_3]; done) | rw [if_neg (by omega), if_neg (by omega), if_neg (by omega)]
        · skip
          refine lv_iconst (v := 1) hx hb dX9_ofMeadow_47 rfl ?_
          refine lv_goto (tgt := 64) hx hb dX9_ofMeadow_48 (by decide) ?_
          refine zRO.iret X hr hlocks ?_ dX9_ofMeadow_64
          unfold m_ofM
          first | rw [if_pos (by omega)] | rw [if_neg (by omega), if_pos (by omega)] | (rw [if_neg (by omega), if_neg (by omega), if_pos (by omega)]; simp [c2_0, c16_1, c33_2, c44_3]; done) | rw [if_neg (by omega), if_neg (by omega), if_neg (by omega)]
    · skip
      have kc16_1 := (zn_eq (a := w) (b := 7) rfl rfl (by omega) (by omega)).mp c16_1
      refine lv_aload_n hx hb dX9_ofMeadow_19 rfl (lv_at hl 0 rfl) ?_
      refine z_get X (hP.at 0 0 rfl rfl) zF_RX9_7_12 rfl dX9_ofMeadow_20 ?_
      refine lv_iload_n hx hb dX9_ofMeadow_23 rfl (lv_at hl 1 rfl) ?_
      refine zc_ro (zr_S (As := [.ref a0, .int (nI m)]) (rest := []) X (m_X9_room l g a0 f m n (by omega) (by omega) (by first | exact h6c | exact h6 | (simp (disch := omega) only [upd_n]; first | exact h6c | exact h6))) zL_RX9_68 (zH.cons (va_P.one (hP.at 1 0 rfl rfl)) zH.nil) hS hA0 hls rfl (Nat.le_of_ble_eq_true rfl) ⟨rfl, rfl, Nat.le_of_ble_eq_true rfl, Nat.le_of_ble_eq_true rfl, (Nat.le_of_ble_eq_true rfl), (Nat.le_of_ble_eq_true rfl)⟩ dX9_ofMeadow_24) ?_
      refine lv_goto (tgt := 64) hx hb dX9_ofMeadow_27 (by decide) ?_
      refine zRO.iret X hr hlocks ?_ dX9_ofMeadow_64
      unfold m_ofM
      first | rw [if_pos (by omega)] | rw [if_neg (by omega), if_pos (by omega)] | (rw [if_neg (by omega), if_neg (by omega), if_pos (by omega)]; simp [c2_0, c16_1]; done) | rw [if_neg (by omega), if_neg (by omega), if_neg (by omega)]
  · skip
    have kc2_0 := (zn_eq (a := w) (b := 5) rfl rfl (by omega) (by omega)).mp c2_0
    refine lv_aload_n hx hb dX9_ofMeadow_5 rfl (lv_at hl 0 rfl) ?_
    refine lv_iload_n hx hb dX9_ofMeadow_6 rfl (lv_at hl 1 rfl) ?_
    refine zc_ro (zr_V (As := [.int (nI m)]) (rest := []) X (m_X9_stoppedFor l g x a0 a1 a2 a3 a4 a5 a6 k ty at_ tl thr val bF bC f m (by omega)) zL_RX9_132 (ci := 12) rfl (hP.at 0 0 rfl rfl) (zH.cons (va_P.one (hP.at 0 0 rfl rfl)) (zH.cons (va_P.one (hP.at 1 0 rfl rfl)) zH.nil)) hS hA0 hls rfl (Nat.le_of_ble_eq_true rfl) ⟨rfl, rfl, Nat.le_of_ble_eq_true rfl, Nat.le_of_ble_eq_true rfl, (Nat.le_of_ble_eq_true rfl), (Nat.le_of_ble_eq_true rfl)⟩ dX9_ofMeadow_7) ?_
    refine lv_goto (tgt := 64) hx hb dX9_ofMeadow_10 (by decide) ?_
    refine zRO.iret X hr hlocks ?_ dX9_ofMeadow_64
    unfold m_ofM
    first | rw [if_pos (by omega)] | rw [if_neg (by omega), if_pos (by omega)] | (rw [if_neg (by omega), if_neg (by omega), if_pos (by omega)]; simp [c2_0]; done) | rw [if_neg (by omega), if_neg (by omega), if_neg (by omega)]

abbrev rm_X9_meadow_bad : Room := { frames := 2, cells := 0, slots := 0, locals := 42 }
set_option maxHeartbeats 4000000 in
set_option maxRecDepth 100000 in
theorem m_X9_meadow_bad (l : Launch) (g : zG) (x a0 a1 a2 a3 a4 a5 a6 : Nat) (k ty at_ tl : Nat) (thr val : Int32) (bF bC : Bool) (q w : Int32) (hbad : (m_in q 0 4 && m_in w 0 8) = false) (sz : Nat) : zWR l yX9_meadow cX9_meadow 3 (Option.some Jvm.ClassFile.FieldType.int) rm_X9_meadow_bad g [.ref x, .int q, .int w] ([[(x, .inr (12, [.ref a0, .ref a1, .ref a2, .int (nI k), .ref a3, .ref a4, .ref a5, .int (nI ty), .int thr, .int (nI at_), .int (zb bF), .int val, .ref a6, .int (nI tl), .int (zb bC)]))]] : List va_W) 0 0 sz (fun zv gs' => zv = some (.int (0)) ∧ gs' = [[(x, .inr (12, [.ref a0, .ref a1, .ref a2, .int (nI k), .ref a3, .ref a4, .ref a5, .int (nI ty), .int 1, .int (nI at_), .int (zb bF), .int val, .ref a6, .int (nI tl), .int (zb bC)]))]]) := by
  refine zWR.start (by decide) (Nat.le_of_ble_eq_true rfl) ?_
  intro zp ze s zm zbl zmt zc ls A X hr hlocks hinn hl hAe hW hS hA hA0
  have hx := X.1
  have hb := X.2.1
  have hml := X.2.2.1
  have hown := X.2.2.2.1
  have hls := hl.1
  have hl : lv_has ls 3 [(0, .ref x), (1, .int q), (2, .int w)] := hl
  refine lv_aload_n hx hb dX9_meadow_0 rfl (lv_at hl 0 rfl) ?_
  refine lv_iconst (v := 0) hx hb dX9_meadow_1 rfl ?_
  refine z_put X hW hS 0 0 rfl rfl zP_RX9_32_12 rfl rfl (Nat.le_of_ble_eq_true rfl) dX9_meadow_2 (fun H locs hW hS => ?_)
  have hW : zW g A ([[(x, .inr (12, [.ref a0, .ref a1, .ref a2, .int (nI k), .ref a3, .ref a4, .ref a5, .int (nI ty), .int 0, .int (nI at_), .int (zb bF), .int val, .ref a6, .int (nI tl), .int (zb bC)]))]] : List va_W) H := hW
  refine lv_iload_n hx hb dX9_meadow_5 rfl (lv_at hl 1 rfl) ?_
  refine zc_ro (zr_S (As := [.int q]) (rest := []) X (m_X9_isMeadow l g q) zL_RX9_129 trivial hS hA0 hls rfl (Nat.le_of_ble_eq_true rfl) ⟨rfl, rfl, Nat.le_of_ble_eq_true rfl, Nat.le_of_ble_eq_true rfl, (Nat.le_of_ble_eq_true rfl), (Nat.le_of_ble_eq_true rfl)⟩ dX9_meadow_6) ?_
  refine zb_ifeq (tgt := 31) hx hb dX9_meadow_9 (by decide) (fun c9_0 => ?_) (fun c9_0 => ?_)
  · skip
    refine lv_aload_n hx hb dX9_meadow_31 rfl (lv_at hl 0 rfl) ?_
    refine lv_iconst (v := 1) hx hb dX9_meadow_32 rfl ?_
    refine zc_wr (gc := [[(x, .inr (12, [.ref a0, .ref a1, .ref a2, .int (nI k), .ref a3, .ref a4, .ref a5, .int (nI ty), .int 0, .int (nI at_), .int (zb bF), .int val, .ref a6, .int (nI tl), .int (zb bC)]))]]) (gr := []) (zr_V (As := [.int 1]) (rest := []) X (m_X9_fails l g x a0 a1 a2 a3 a4 a5 a6 k ty at_ tl 0 val bF bC 1 _) zL_RX9_47 (ci := 12) rfl (hW.H.at 0 0 rfl rfl) (zW.pre (gc := [[(x, .inr (12, [.ref a0, .ref a1, .ref a2, .int (nI k), .ref a3, .ref a4, .ref a5, .int (nI ty), .int 0, .int (nI at_), .int (zb bF), .int val, .ref a6, .int (nI tl), .int (zb bC)]))]]) (gr := []) hW hA0) hS hA0 hls rfl (Nat.le_of_ble_eq_true rfl) ⟨rfl, rfl, Nat.le_of_ble_eq_true rfl, Nat.le_of_ble_eq_true rfl, (Nat.le_of_ble_eq_true rfl), (Nat.le_of_ble_eq_true rfl)⟩ dX9_meadow_33) hW hS hA (fun v gc' H locs hpost hW hS => ?_)
    obtain ⟨rfl, rfl⟩ := hpost
    have hW : zW g A ([[(x, .inr (12, [.ref a0, .ref a1, .ref a2, .int (nI k), .ref a3, .ref a4, .ref a5, .int (nI ty), .int 1, .int (nI at_), .int (zb bF), .int val, .ref a6, .int (nI tl), .int (zb bC)]))]] : List va_W) H := hW
    refine W.eq (g2 := F0 zm 36 ls [.int 0]) rfl ?_
    refine zWR.iret X hAe hW hS hr hlocks ?_ (Nat.le_of_ble_eq_true rfl) (Nat.le_of_ble_eq_true rfl) dX9_meadow_36
    exact ⟨rfl, rfl⟩
  · skip
    refine lv_iload_n hx hb dX9_meadow_12 rfl (lv_at hl 2 rfl) ?_
    refine lv_iconst (v := 0) hx hb dX9_meadow_13 rfl ?_
    refine lv_bipush (v := 8) hx hb dX9_meadow_14 (by decide) ?_
    refine zc_ro (zr_S (As := [.int w, .int 0, .int 8]) (rest := []) X (m_X9_in l g w 0 8) zL_RX9_36 trivial hS hA0 hls rfl (Nat.le_of_ble_eq_true rfl) ⟨rfl, rfl, Nat.le_of_ble_eq_true rfl, Nat.le_of_ble_eq_true rfl, (Nat.le_of_ble_eq_true rfl), (Nat.le_of_ble_eq_true rfl)⟩ dX9_meadow_16) ?_
    refine zb_ifeq (tgt := 31) hx hb dX9_meadow_19 (by decide) (fun c19_1 => ?_) (fun c19_1 => ?_)
    · skip
      refine lv_aload_n hx hb dX9_meadow_31 rfl (lv_at hl 0 rfl) ?_
      refine lv_iconst (v := 1) hx hb dX9_meadow_32 rfl ?_
      refine zc_wr (gc := [[(x, .inr (12, [.ref a0, .ref a1, .ref a2, .int (nI k), .ref a3, .ref a4, .ref a5, .int (nI ty), .int 0, .int (nI at_), .int (zb bF), .int val, .ref a6, .int (nI tl), .int (zb bC)]))]]) (gr := []) (zr_V (As := [.int 1]) (rest := []) X (m_X9_fails l g x a0 a1 a2 a3 a4 a5 a6 k ty at_ tl 0 val bF bC 1 _) zL_RX9_47 (ci := 12) rfl (hW.H.at 0 0 rfl rfl) (zW.pre (gc := [[(x, .inr (12, [.ref a0, .ref a1, .ref a2, .int (nI k), .ref a3, .ref a4, .ref a5, .int (nI ty), .int 0, .int (nI at_), .int (zb bF), .int val, .ref a6, .int (nI tl), .int (zb bC)]))]]) (gr := []) hW hA0) hS hA0 hls rfl (Nat.le_of_ble_eq_true rfl) ⟨rfl, rfl, Nat.le_of_ble_eq_true rfl, Nat.le_of_ble_eq_true rfl, (Nat.le_of_ble_eq_true rfl), (Nat.le_of_ble_eq_true rfl)⟩ dX9_meadow_33) hW hS hA (fun v gc' H locs hpost hW hS => ?_)
      obtain ⟨rfl, rfl⟩ := hpost
      have hW : zW g A ([[(x, .inr (12, [.ref a0, .ref a1, .ref a2, .int (nI k), .ref a3, .ref a4, .ref a5, .int (nI ty), .int 1, .int (nI at_), .int (zb bF), .int val, .ref a6, .int (nI tl), .int (zb bC)]))]] : List va_W) H := hW
      refine W.eq (g2 := F0 zm 36 ls [.int 0]) rfl ?_
      refine zWR.iret X hAe hW hS hr hlocks ?_ (Nat.le_of_ble_eq_true rfl) (Nat.le_of_ble_eq_true rfl) dX9_meadow_36
      exact ⟨rfl, rfl⟩
    · exact absurd hbad (by simp [c9_0, c19_1])

abbrev rm_X9_meadow_ok : Room := { frames := 4, cells := 0, slots := 0, locals := 86 }
set_option maxHeartbeats 4000000 in
set_option maxRecDepth 100000 in
theorem m_X9_meadow_ok (l : Launch) (g : zG) (x a0 a1 a2 a3 a4 a5 a6 : Nat) (k ty at_ tl : Nat) (thr val : Int32) (bF bC : Bool) (f : Nat → Int32) (q w n : Nat) (hq : q < 5) (hw : w < 9) (hn : n ≤ 4) (h6 : f 6 = nI n) (sz : Nat) : zWR l yX9_meadow cX9_meadow 3 (Option.some Jvm.ClassFile.FieldType.int) rm_X9_meadow_ok g [.ref x, .int (nI q), .int (nI w)] ([[(x, .inr (12, [.ref a0, .ref a1, .ref a2, .int (nI k), .ref a3, .ref a4, .ref a5, .int (nI ty), .int thr, .int (nI at_), .int (zb bF), .int val, .ref a6, .int (nI tl), .int (zb bC)]))], [(a0, .inl (g.2.1 0, 89, .inl f))]] : List va_W) 0 0 sz (fun zv gs' => zv = some (.int (m_ofM f n q w)) ∧ gs' = [[(x, .inr (12, [.ref a0, .ref a1, .ref a2, .int (nI k), .ref a3, .ref a4, .ref a5, .int (nI ty), .int 0, .int (nI at_), .int (zb bF), .int val, .ref a6, .int (nI tl), .int (zb bC)]))], [(a0, .inl (g.2.1 0, 89, .inl f))]]) := by
  refine zWR.start (by decide) (Nat.le_of_ble_eq_true rfl) ?_
  intro zp ze s zm zbl zmt zc ls A X hr hlocks hinn hl hAe hW hS hA hA0
  have hx := X.1
  have hb := X.2.1
  have hml := X.2.2.1
  have hown := X.2.2.2.1
  have hls := hl.1
  have hl : lv_has ls 3 [(0, .ref x), (1, .int (nI q)), (2, .int (nI w))] := hl
  refine lv_aload_n hx hb dX9_meadow_0 rfl (lv_at hl 0 rfl) ?_
  refine lv_iconst (v := 0) hx hb dX9_meadow_1 rfl ?_
  refine z_put X hW hS 0 0 rfl rfl zP_RX9_32_12 rfl rfl (Nat.le_of_ble_eq_true rfl) dX9_meadow_2 (fun H locs hW hS => ?_)
  have hW : zW g A ([[(x, .inr (12, [.ref a0, .ref a1, .ref a2, .int (nI k), .ref a3, .ref a4, .ref a5, .int (nI ty), .int 0, .int (nI at_), .int (zb bF), .int val, .ref a6, .int (nI tl), .int (zb bC)]))], [(a0, .inl (g.2.1 0, 89, .inl f))]] : List va_W) H := hW
  refine lv_iload_n hx hb dX9_meadow_5 rfl (lv_at hl 1 rfl) ?_
  refine zc_ro (zr_S (As := [.int (nI q)]) (rest := []) X (m_X9_isMeadow l g (nI q)) zL_RX9_129 trivial hS hA0 hls rfl (Nat.le_of_ble_eq_true rfl) ⟨rfl, rfl, Nat.le_of_ble_eq_true rfl, Nat.le_of_ble_eq_true rfl, (Nat.le_of_ble_eq_true rfl), (Nat.le_of_ble_eq_true rfl)⟩ dX9_meadow_6) ?_
  refine zb_ifeq (tgt := 31) hx hb dX9_meadow_9 (by decide) (fun c9_0 => ?_) (fun c9_0 => ?_)
  · exact absurd ((m_in_T (a := 0) (b := 4) rfl rfl rfl (by omega) (by omega) (by decide)).symm.trans c9_0) (by decide)
  · skip
    refine lv_iload_n hx hb dX9_meadow_12 rfl (lv_at hl 2 rfl) ?_
    refine lv_iconst (v := 0) hx hb dX9_meadow_13 rfl ?_
    refine lv_bipush (v := 8) hx hb dX9_meadow_14 (by decide) ?_
    refine zc_ro (zr_S (As := [.int (nI w), .int 0, .int 8]) (rest := []) X (m_X9_in l g (nI w) 0 8) zL_RX9_36 trivial hS hA0 hls rfl (Nat.le_of_ble_eq_true rfl) ⟨rfl, rfl, Nat.le_of_ble_eq_true rfl, Nat.le_of_ble_eq_true rfl, (Nat.le_of_ble_eq_true rfl), (Nat.le_of_ble_eq_true rfl)⟩ dX9_meadow_16) ?_
    refine zb_ifeq (tgt := 31) hx hb dX9_meadow_19 (by decide) (fun c19_1 => ?_) (fun c19_1 => ?_)
    · exact absurd ((m_in_T (a := 0) (b := 8) rfl rfl rfl (by omega) (by omega) (by decide)).symm.trans c19_1) (by decide)
    · skip
      refine lv_aload_n hx hb dX9_meadow_22 rfl (lv_at hl 0 rfl) ?_
      refine lv_iload_n hx hb dX9_meadow_23 rfl (lv_at hl 1 rfl) ?_
      refine lv_iload_n hx hb dX9_meadow_24 rfl (lv_at hl 2 rfl) ?_
      refine zc_ro (zr_V (As := [.int (nI q), .int (nI w)]) (rest := []) X (m_X9_ofMeadow l g x a0 a1 a2 a3 a4 a5 a6 k ty at_ tl 0 val bF bC f q w n (by omega) (by omega) (by omega) (by first | exact h6c | exact h6 | (simp (disch := omega) only [upd_n]; first | exact h6c | exact h6))) zL_RX9_200 (ci := 12) rfl (hW.H.at 0 0 rfl rfl) (zH.cons (va_P.one (hW.H.at 0 0 rfl rfl)) (zH.cons (va_P.one (hW.H.at 1 0 rfl rfl)) zH.nil)) hS hA0 hls rfl (Nat.le_of_ble_eq_true rfl) ⟨rfl, rfl, Nat.le_of_ble_eq_true rfl, Nat.le_of_ble_eq_true rfl, (Nat.le_of_ble_eq_true rfl), (Nat.le_of_ble_eq_true rfl)⟩ dX9_meadow_25) ?_
      refine lv_goto (tgt := 36) hx hb dX9_meadow_28 (by decide) ?_
      refine zWR.iret X hAe hW hS hr hlocks ?_ (Nat.le_of_ble_eq_true rfl) (Nat.le_of_ble_eq_true rfl) dX9_meadow_36
      exact ⟨rfl, rfl⟩

abbrev rm_X9_many : Room := { frames := 3, cells := 0, slots := 0, locals := 64 }
set_option maxHeartbeats 4000000 in
set_option maxRecDepth 100000 in
theorem m_X9_many (l : Launch) (g : zG) (x a0 a1 a2 a3 a4 a5 a6 : Nat) (k ty at_ tl : Nat) (thr val : Int32) (bF bC : Bool) (f : Nat → Int32) (bm : Bool) (n : Nat) (hn : n ≤ 4) (h6 : f 6 = nI n) : zRO l yX9_many cX9_many 4 (Option.some Jvm.ClassFile.FieldType.int) rm_X9_many g [.ref x, .int (zb bm)] (fun H => zH g ([[(x, .inr (12, [.ref a0, .ref a1, .ref a2, .int (nI k), .ref a3, .ref a4, .ref a5, .int (nI ty), .int thr, .int (nI at_), .int (zb bF), .int val, .ref a6, .int (nI tl), .int (zb bC)]))], [(a0, .inl (g.2.1 0, 89, .inl f))]] : List va_W) H) (.int (m_many bm f n 5)) := by
  refine zRO.start (by decide) (Nat.le_of_ble_eq_true rfl) ?_
  intro zp ze s zm zbl zmt zc ls X hr hlocks hP hl hS hA0
  have hx := X.1
  have hb := X.2.1
  have hml := X.2.2.1
  have hown := X.2.2.2.1
  have hls := hl.1
  have hl : lv_has ls 4 [(0, .ref x), (1, .int (zb bm))] := hl
  refine lv_iconst (v := 0) hx hb dX9_many_0 rfl ?_
  refine lv_istore_n (lv' := [(2, .int 0), (0, .ref x), (1, .int (zb bm))]) hx hb dX9_many_1 rfl hl (by decide) rfl (fun ls hl => ?_)
  have hls := hl.1
  refine lv_iconst (v := 0) hx hb dX9_many_2 rfl ?_
  refine lv_istore_n (lv' := [(3, .int 0), (2, .int 0), (0, .ref x), (1, .int (zb bm))]) hx hb dX9_many_3 rfl hl (by decide) rfl (fun ls hl => ?_)
  have hls := hl.1
  have hj4 : ∀ (zn j : Nat) (h_le : j ≤ 5) (h_fu : 5 < j + zn) (sm : Int32) (hsm : sm = m_many bm f n j) (ls : Array Slot), lv_has ls 4 [(0, .ref x), (1, .int (zb bm)), (2, .int sm), (3, .int (nI j))] → W zp l ze rm_X9_many s zm ([.ref x, .int (zb bm)] : List Value).toArray zbl zmt zc s.heap [] 0 0 (MQ zbl (zQR (.int (m_many bm f n 5))) ([.ref x, .int (zb bm)] : List Value).toArray s 0 0 (fun _ => False)) (F0 zm 4 ls []) := by
    intro zn
    induction zn with
    | zero => intro j h_le h_fu; exact absurd h_fu (by omega)
    | succ zn ih4 =>
      intro j h_le h_fu sm hsm ls hl
      have hls := hl.1
      refine lv_iload_n hx hb dX9_many_4 rfl (lv_at hl 3 rfl) ?_
      refine lv_iconst (v := 5) hx hb dX9_many_5 rfl ?_
      refine lv_icmp_ge (tgt := 70) hx hb dX9_many_6 (by decide) (fun c6_0 => ?_) (fun c6_0 => ?_)
      · skip
        have kc6_0 := (zn_le (a := 5) (b := j) rfl rfl (by omega) (by omega)).mp c6_0
        refine lv_iload_n hx hb dX9_many_70 rfl (lv_at hl 2 rfl) ?_
        refine zRO.iret X hr hlocks ?_ dX9_many_71
        have h5 : j = 5 := by omega
        subst h5
        exact hsm
      · skip
        have kc6_0 := mt (zn_le (a := 5) (b := j) rfl rfl (by omega) (by omega)).mpr c6_0
        refine lv_iload_n hx hb dX9_many_9 rfl (lv_at hl 2 rfl) ?_
        refine lv_iload_n hx hb dX9_many_10 rfl (lv_at hl 1 rfl) ?_
        refine zb_ifeq (tgt := 33) hx hb dX9_many_11 (by decide) (fun c11_1 => ?_) (fun c11_1 => ?_)
        · skip
          refine lv_iload_n hx hb dX9_many_33 rfl (lv_at hl 3 rfl) ?_
          refine lv_aload_n hx hb dX9_many_34 rfl (lv_at hl 0 rfl) ?_
          refine z_get X (hP.at 0 0 rfl rfl) zF_RX9_7_12 rfl dX9_many_35 ?_
          refine lv_bipush (v := 6) hx hb dX9_many_38 (by decide) ?_
          refine z_iald X (j := 6) (hP.at 1 0 rfl rfl) rfl (by omega) (by decide) dX9_many_40 ?_
          refine z_stk (b := [.int (nI n), .int (nI j), .int sm]) (by rw [show (f 6) = nI n from h6]) ?_
          refine lv_icmp_ge (tgt := 61) hx hb dX9_many_41 (by decide) (fun c41_2 => ?_) (fun c41_2 => ?_)
          · skip
            have kc41_2 := (zn_le (a := n) (b := j) rfl rfl (by omega) (by omega)).mp c41_2
            refine lv_iconst (v := 0) hx hb dX9_many_61 rfl ?_
            refine lv_iadd hx hb dX9_many_62 ?_
            refine lv_istore_n (lv' := [(2, .int (sm + 0)), (0, .ref x), (1, .int (zb bm)), (3, .int (nI j))]) hx hb dX9_many_63 rfl hl (by decide) rfl (fun ls hl => ?_)
            have hls := hl.1
            refine lv_iinc (v := nI (j + 1)) (lv' := [(3, .int (nI (j + 1))), (2, .int (sm + 0)), (0, .ref x), (1, .int (zb bm))]) hx hb dX9_many_64 hl (k := 3) rfl (zx_add rfl rfl) (by decide) rfl (fun ls hl => ?_)
            have hls := hl.1
            refine lv_goto (tgt := 4) hx hb dX9_many_67 (by decide) ?_
            exact ih4 (j + 1) (by omega) (by omega) _ (by rw [m_many, ← hsm, if_neg (by rw [c11_1]; decide), if_pos (by omega)]) _ (lv_sub hl [2, 3, 1, 0] rfl)
          · skip
            have kc41_2 := mt (zn_le (a := n) (b := j) rfl rfl (by omega) (by omega)).mpr c41_2
            refine lv_aload_n hx hb dX9_many_44 rfl (lv_at hl 0 rfl) ?_
            refine z_get X (hP.at 0 0 rfl rfl) zF_RX9_7_12 rfl dX9_many_45 ?_
            refine lv_iload_n hx hb dX9_many_48 rfl (lv_at hl 3 rfl) ?_
            refine lv_iconst (v := 1) hx hb dX9_many_49 rfl ?_
            refine zc_ro (zr_S (As := [.ref a0, .int (nI j), .int 1]) (rest := [.int sm]) X (m_X9_bargeIn l g a0 f j 1 (by omega)) zL_RX9_58 (zH.cons (va_P.one (hP.at 1 0 rfl rfl)) zH.nil) hS hA0 hls rfl (Nat.le_of_ble_eq_true rfl) ⟨rfl, rfl, Nat.le_of_ble_eq_true rfl, Nat.le_of_ble_eq_true rfl, (Nat.le_of_ble_eq_true rfl), (Nat.le_of_ble_eq_true rfl)⟩ dX9_many_50) ?_
            refine lv_iconst (v := 2) hx hb dX9_many_53 rfl ?_
            refine lv_icmp_ne (tgt := 61) hx hb dX9_many_54 (by decide) (fun c54_3 => ?_) (fun c54_3 => ?_)
            · skip
              refine lv_iconst (v := 0) hx hb dX9_many_61 rfl ?_
              refine lv_iadd hx hb dX9_many_62 ?_
              refine lv_istore_n (lv' := [(2, .int (sm + 0)), (0, .ref x), (1, .int (zb bm)), (3, .int (nI j))]) hx hb dX9_many_63 rfl hl (by decide) rfl (fun ls hl => ?_)
              have hls := hl.1
              refine lv_iinc (v := nI (j + 1)) (lv' := [(3, .int (nI (j + 1))), (2, .int (sm + 0)), (0, .ref x), (1, .int (zb bm))]) hx hb dX9_many_64 hl (k := 3) rfl (zx_add rfl rfl) (by decide) rfl (fun ls hl => ?_)
              have hls := hl.1
              refine lv_goto (tgt := 4) hx hb dX9_many_67 (by decide) ?_
              exact ih4 (j + 1) (by omega) (by omega) _ (by rw [m_many, ← hsm, if_neg (by rw [c11_1]; decide), if_neg (by omega), if_neg c54_3]) _ (lv_sub hl [2, 3, 1, 0] rfl)
            · skip
              refine lv_iconst (v := 1) hx hb dX9_many_57 rfl ?_
              refine lv_goto (tgt := 62) hx hb dX9_many_58 (by decide) ?_
              refine lv_iadd hx hb dX9_many_62 ?_
              refine lv_istore_n (lv' := [(2, .int (sm + 1)), (0, .ref x), (1, .int (zb bm)), (3, .int (nI j))]) hx hb dX9_many_63 rfl hl (by decide) rfl (fun ls hl => ?_)
              have hls := hl.1
              refine lv_iinc (v := nI (j + 1)) (lv' := [(3, .int (nI (j + 1))), (2, .int (sm + 1)), (0, .ref x), (1, .int (zb bm))]) hx hb dX9_many_64 hl (k := 3) rfl (zx_add rfl rfl) (by decide) rfl (fun ls hl => ?_)
              have hls := hl.1
              refine lv_goto (tgt := 4) hx hb dX9_many_67 (by decide) ?_
              exact ih4 (j + 1) (by omega) (by omega) _ (by rw [m_many, ← hsm, if_neg (by rw [c11_1]; decide), if_neg (by omega), if_pos c54_3]) _ (lv_sub hl [2, 3, 1, 0] rfl)
        · skip
          refine lv_aload_n hx hb dX9_many_14 rfl (lv_at hl 0 rfl) ?_
          refine z_get X (hP.at 0 0 rfl rfl) zF_RX9_7_12 rfl dX9_many_15 ?_
          refine lv_iload_n hx hb dX9_many_18 rfl (lv_at hl 3 rfl) ?_
          refine zc_ro (zr_S (As := [.ref a0, .int (nI j)]) (rest := [.int sm]) X (m_X9_isOpen l g a0 f j (by omega)) zL_RX9_78 (zH.cons (va_P.one (hP.at 1 0 rfl rfl)) zH.nil) hS hA0 hls rfl (Nat.le_of_ble_eq_true rfl) ⟨rfl, rfl, Nat.le_of_ble_eq_true rfl, Nat.le_of_ble_eq_true rfl, (Nat.le_of_ble_eq_true rfl), (Nat.le_of_ble_eq_true rfl)⟩ dX9_many_19) ?_
          refine zb_ifeq (tgt := 29) hx hb dX9_many_22 (by decide) (fun c22_4 => ?_) (fun c22_4 => ?_)
          · skip
            refine lv_iconst (v := 0) hx hb dX9_many_29 rfl ?_
            refine lv_goto (tgt := 62) hx hb dX9_many_30 (by decide) ?_
            refine lv_iadd hx hb dX9_many_62 ?_
            refine lv_istore_n (lv' := [(2, .int (sm + 0)), (0, .ref x), (1, .int (zb bm)), (3, .int (nI j))]) hx hb dX9_many_63 rfl hl (by decide) rfl (fun ls hl => ?_)
            have hls := hl.1
            refine lv_iinc (v := nI (j + 1)) (lv' := [(3, .int (nI (j + 1))), (2, .int (sm + 0)), (0, .ref x), (1, .int (zb bm))]) hx hb dX9_many_64 hl (k := 3) rfl (zx_add rfl rfl) (by decide) rfl (fun ls hl => ?_)
            have hls := hl.1
            refine lv_goto (tgt := 4) hx hb dX9_many_67 (by decide) ?_
            exact ih4 (j + 1) (by omega) (by omega) _ (by rw [m_many, ← hsm]; simp [c6_0, c11_1, c22_4]) _ (lv_sub hl [2, 3, 1, 0] rfl)
          · skip
            refine lv_iconst (v := 1) hx hb dX9_many_25 rfl ?_
            refine lv_goto (tgt := 62) hx hb dX9_many_26 (by decide) ?_
            refine lv_iadd hx hb dX9_many_62 ?_
            refine lv_istore_n (lv' := [(2, .int (sm + 1)), (0, .ref x), (1, .int (zb bm)), (3, .int (nI j))]) hx hb dX9_many_63 rfl hl (by decide) rfl (fun ls hl => ?_)
            have hls := hl.1
            refine lv_iinc (v := nI (j + 1)) (lv' := [(3, .int (nI (j + 1))), (2, .int (sm + 1)), (0, .ref x), (1, .int (zb bm))]) hx hb dX9_many_64 hl (k := 3) rfl (zx_add rfl rfl) (by decide) rfl (fun ls hl => ?_)
            have hls := hl.1
            refine lv_goto (tgt := 4) hx hb dX9_many_67 (by decide) ?_
            exact ih4 (j + 1) (by omega) (by omega) _ (by rw [m_many, ← hsm]; simp [c6_0, c11_1, c22_4]) _ (lv_sub hl [2, 3, 1, 0] rfl)
  exact hj4 (5 + 1) (0) (by omega) (by omega) _ rfl _ (lv_sub hl [2, 3, 1, 0] rfl)

abbrev rm_X9_counted : Room := { frames := 4, cells := 0, slots := 0, locals := 87 }
set_option maxHeartbeats 4000000 in
set_option maxRecDepth 100000 in
theorem m_X9_counted (l : Launch) (g : zG) (x a0 a1 a2 a3 a4 a5 a6 : Nat) (k ty at_ tl : Nat) (thr val : Int32) (bF bC : Bool) (f : Nat → Int32) (w n : Nat) (hw : w < 12) (hn : n ≤ 4) (h6 : f 6 = nI n) : zRO l yX9_counted cX9_counted 2 (Option.some Jvm.ClassFile.FieldType.int) rm_X9_counted g [.ref x, .int (nI w)] (fun H => zH g ([[(x, .inr (12, [.ref a0, .ref a1, .ref a2, .int (nI k), .ref a3, .ref a4, .ref a5, .int (nI ty), .int thr, .int (nI at_), .int (zb bF), .int val, .ref a6, .int (nI tl), .int (zb bC)]))], [(a0, .inl (g.2.1 0, 89, .inl f))]] : List va_W) H) (.int (m_cnt f n k w)) := by
  refine zRO.start (by decide) (Nat.le_of_ble_eq_true rfl) ?_
  intro zp ze s zm zbl zmt zc ls X hr hlocks hP hl hS hA0
  have hx := X.1
  have hb := X.2.1
  have hml := X.2.2.1
  have hown := X.2.2.2.1
  have hls := hl.1
  have hl : lv_has ls 2 [(0, .ref x), (1, .int (nI w))] := hl
  refine lv_iload_n hx hb dX9_counted_0 rfl (lv_at hl 1 rfl) ?_
  by_cases sw1_0 : nI w = 0
  · refine z_stk (b := [.int 0]) (by rw [sw1_0]) ?_
    refine lv_tableIn (off := 59) (tgt := 60) hx hb dX9_counted_1 (by decide) (by decide) rfl (by decide) ?_
    have ksw1 : w = 0 := (zn_eq rfl rfl (by omega) (by omega)).mp sw1_0
    refine lv_aload_n hx hb dX9_counted_60 rfl (lv_at hl 0 rfl) ?_
    refine z_get X (hP.at 0 0 rfl rfl) zF_RX9_7_12 rfl dX9_counted_61 ?_
    refine lv_iconst (v := 4) hx hb dX9_counted_64 rfl ?_
    refine z_iald X (j := 4) (hP.at 1 0 rfl rfl) rfl (by omega) (by decide) dX9_counted_65 ?_
    refine zRO.iret X hr hlocks ?_ dX9_counted_66
    rw [ksw1]
    rfl
  by_cases sw1_1 : nI w = 1
  · refine z_stk (b := [.int 1]) (by rw [sw1_1]) ?_
    refine lv_tableIn (off := 66) (tgt := 67) hx hb dX9_counted_1 (by decide) (by decide) rfl (by decide) ?_
    have ksw1 : w = 1 := (zn_eq rfl rfl (by omega) (by omega)).mp sw1_1
    refine lv_aload_n hx hb dX9_counted_67 rfl (lv_at hl 0 rfl) ?_
    refine z_get X (hP.at 0 0 rfl rfl) zF_RX9_7_12 rfl dX9_counted_68 ?_
    refine lv_bipush (v := 6) hx hb dX9_counted_71 (by decide) ?_
    refine z_iald X (j := 6) (hP.at 1 0 rfl rfl) rfl (by omega) (by decide) dX9_counted_73 ?_
    refine zRO.iret X hr hlocks ?_ dX9_counted_74
    rw [ksw1]
    rfl
  by_cases sw1_2 : nI w = 2
  · refine z_stk (b := [.int 2]) (by rw [sw1_2]) ?_
    refine lv_tableIn (off := 74) (tgt := 75) hx hb dX9_counted_1 (by decide) (by decide) rfl (by decide) ?_
    have ksw1 : w = 2 := (zn_eq rfl rfl (by omega) (by omega)).mp sw1_2
    refine lv_aload_n hx hb dX9_counted_75 rfl (lv_at hl 0 rfl) ?_
    refine z_get X (hP.at 0 0 rfl rfl) zF_RX9_7_12 rfl dX9_counted_76 ?_
    refine lv_iconst (v := 5) hx hb dX9_counted_79 rfl ?_
    refine z_iald X (j := 5) (hP.at 1 0 rfl rfl) rfl (by omega) (by decide) dX9_counted_80 ?_
    refine zRO.iret X hr hlocks ?_ dX9_counted_81
    rw [ksw1]
    rfl
  by_cases sw1_3 : nI w = 3
  · refine z_stk (b := [.int 3]) (by rw [sw1_3]) ?_
    refine lv_tableIn (off := 81) (tgt := 82) hx hb dX9_counted_1 (by decide) (by decide) rfl (by decide) ?_
    have ksw1 : w = 3 := (zn_eq rfl rfl (by omega) (by omega)).mp sw1_3
    refine lv_aload_n hx hb dX9_counted_82 rfl (lv_at hl 0 rfl) ?_
    refine z_get X (hP.at 0 0 rfl rfl) zF_RX9_7_12 rfl dX9_counted_83 ?_
    refine zc_ro (zr_S (As := [.ref a0]) (rest := []) X (m_X9_raised l g a0 f) zL_RX9_203 (zH.cons (va_P.one (hP.at 1 0 rfl rfl)) zH.nil) hS hA0 hls rfl (Nat.le_of_ble_eq_true rfl) ⟨rfl, rfl, Nat.le_of_ble_eq_true rfl, Nat.le_of_ble_eq_true rfl, (Nat.le_of_ble_eq_true rfl), (Nat.le_of_ble_eq_true rfl)⟩ dX9_counted_86) ?_
    refine zRO.iret X hr hlocks ?_ dX9_counted_89
    rw [ksw1]
    rfl
  by_cases sw1_4 : nI w = 4
  · refine z_stk (b := [.int 4]) (by rw [sw1_4]) ?_
    refine lv_tableIn (off := 89) (tgt := 90) hx hb dX9_counted_1 (by decide) (by decide) rfl (by decide) ?_
    have ksw1 : w = 4 := (zn_eq rfl rfl (by omega) (by omega)).mp sw1_4
    refine lv_aload_n hx hb dX9_counted_90 rfl (lv_at hl 0 rfl) ?_
    refine z_get X (hP.at 0 0 rfl rfl) zF_RX9_7_12 rfl dX9_counted_91 ?_
    refine lv_iconst (v := 2) hx hb dX9_counted_94 rfl ?_
    refine zc_ro (zr_S (As := [.ref a0, .int 2]) (rest := []) X (m_X9_ofBarges l g a0 f 2 n (by omega) (by omega) (by first | exact h6c | exact h6 | (simp (disch := omega) only [upd_n]; first | exact h6c | exact h6))) zL_RX9_206 (zH.cons (va_P.one (hP.at 1 0 rfl rfl)) zH.nil) hS hA0 hls rfl (Nat.le_of_ble_eq_true rfl) ⟨rfl, rfl, Nat.le_of_ble_eq_true rfl, Nat.le_of_ble_eq_true rfl, (Nat.le_of_ble_eq_true rfl), (Nat.le_of_ble_eq_true rfl)⟩ dX9_counted_95) ?_
    refine zRO.iret X hr hlocks ?_ dX9_counted_98
    rw [ksw1]
    rfl
  by_cases sw1_5 : nI w = 5
  · refine z_stk (b := [.int 5]) (by rw [sw1_5]) ?_
    refine lv_tableIn (off := 98) (tgt := 99) hx hb dX9_counted_1 (by decide) (by decide) rfl (by decide) ?_
    have ksw1 : w = 5 := (zn_eq rfl rfl (by omega) (by omega)).mp sw1_5
    refine lv_aload_n hx hb dX9_counted_99 rfl (lv_at hl 0 rfl) ?_
    refine z_get X (hP.at 0 0 rfl rfl) zF_RX9_7_12 rfl dX9_counted_100 ?_
    refine zc_ro (zr_S (As := [.ref a0]) (rest := []) X (m_X9_onMeadows l g a0 f) zL_RX9_141 (zH.cons (va_P.one (hP.at 1 0 rfl rfl)) zH.nil) hS hA0 hls rfl (Nat.le_of_ble_eq_true rfl) ⟨rfl, rfl, Nat.le_of_ble_eq_true rfl, Nat.le_of_ble_eq_true rfl, (Nat.le_of_ble_eq_true rfl), (Nat.le_of_ble_eq_true rfl)⟩ dX9_counted_103) ?_
    refine zRO.iret X hr hlocks ?_ dX9_counted_106
    rw [ksw1]
    rfl
  by_cases sw1_6 : nI w = 6
  · refine z_stk (b := [.int 6]) (by rw [sw1_6]) ?_
    refine lv_tableIn (off := 106) (tgt := 107) hx hb dX9_counted_1 (by decide) (by decide) rfl (by decide) ?_
    have ksw1 : w = 6 := (zn_eq rfl rfl (by omega) (by omega)).mp sw1_6
    refine lv_aload_n hx hb dX9_counted_107 rfl (lv_at hl 0 rfl) ?_
    refine z_get X (hP.at 0 0 rfl rfl) zF_RX9_7_12 rfl dX9_counted_108 ?_
    refine lv_bipush (v := 6) hx hb dX9_counted_111 (by decide) ?_
    refine zc_ro (zr_S (As := [.ref a0, .int 6]) (rest := []) X (m_X9_ofBarges l g a0 f 6 n (by omega) (by omega) (by first | exact h6c | exact h6 | (simp (disch := omega) only [upd_n]; first | exact h6c | exact h6))) zL_RX9_206 (zH.cons (va_P.one (hP.at 1 0 rfl rfl)) zH.nil) hS hA0 hls rfl (Nat.le_of_ble_eq_true rfl) ⟨rfl, rfl, Nat.le_of_ble_eq_true rfl, Nat.le_of_ble_eq_true rfl, (Nat.le_of_ble_eq_true rfl), (Nat.le_of_ble_eq_true rfl)⟩ dX9_counted_113) ?_
    refine zRO.iret X hr hlocks ?_ dX9_counted_116
    rw [ksw1]
    rfl
  by_cases sw1_7 : nI w = 7
  · refine z_stk (b := [.int 7]) (by rw [sw1_7]) ?_
    refine lv_tableIn (off := 116) (tgt := 117) hx hb dX9_counted_1 (by decide) (by decide) rfl (by decide) ?_
    have ksw1 : w = 7 := (zn_eq rfl rfl (by omega) (by omega)).mp sw1_7
    refine lv_aload_n hx hb dX9_counted_117 rfl (lv_at hl 0 rfl) ?_
    refine z_get X (hP.at 0 0 rfl rfl) zF_RX9_7_12 rfl dX9_counted_118 ?_
    refine zc_ro (zr_S (As := [.ref a0]) (rest := []) X (m_X9_allSilt l g a0 f) zL_RX9_209 (zH.cons (va_P.one (hP.at 1 0 rfl rfl)) zH.nil) hS hA0 hls rfl (Nat.le_of_ble_eq_true rfl) ⟨rfl, rfl, Nat.le_of_ble_eq_true rfl, Nat.le_of_ble_eq_true rfl, (Nat.le_of_ble_eq_true rfl), (Nat.le_of_ble_eq_true rfl)⟩ dX9_counted_121) ?_
    refine zRO.iret X hr hlocks ?_ dX9_counted_124
    rw [ksw1]
    rfl
  by_cases sw1_8 : nI w = 8
  · refine z_stk (b := [.int 8]) (by rw [sw1_8]) ?_
    refine lv_tableIn (off := 124) (tgt := 125) hx hb dX9_counted_1 (by decide) (by decide) rfl (by decide) ?_
    have ksw1 : w = 8 := (zn_eq rfl rfl (by omega) (by omega)).mp sw1_8
    refine lv_aload_n hx hb dX9_counted_125 rfl (lv_at hl 0 rfl) ?_
    refine lv_iload_n hx hb dX9_counted_126 rfl (lv_at hl 1 rfl) ?_
    refine lv_bipush (v := 10) hx hb dX9_counted_127 (by decide) ?_
    refine lv_icmp_ne (tgt := 136) hx hb dX9_counted_129 (by decide) (fun c129_0 => ?_) (fun c129_0 => ?_)
    · skip
      have kc129_0 := mt (zn_eq (a := w) (b := 10) rfl rfl (by omega) (by omega)).mpr c129_0
      refine lv_iconst (v := 0) hx hb dX9_counted_136 rfl ?_
      refine zc_ro (zr_V (As := [.int 0]) (rest := []) X (m_X9_many l g x a0 a1 a2 a3 a4 a5 a6 k ty at_ tl thr val bF bC f false n (by omega) (by first | exact h6c | exact h6 | (simp (disch := omega) only [upd_n]; first | exact h6c | exact h6))) zL_RX9_212 (ci := 12) rfl (hP.at 0 0 rfl rfl) (zH.cons (va_P.one (hP.at 0 0 rfl rfl)) (zH.cons (va_P.one (hP.at 1 0 rfl rfl)) zH.nil)) hS hA0 hls rfl (Nat.le_of_ble_eq_true rfl) ⟨rfl, rfl, Nat.le_of_ble_eq_true rfl, Nat.le_of_ble_eq_true rfl, (Nat.le_of_ble_eq_true rfl), (Nat.le_of_ble_eq_true rfl)⟩ dX9_counted_137) ?_
      refine zRO.iret X hr hlocks ?_ dX9_counted_140
      rw [ksw1]
      rfl
    · exact absurd ((zn_eq (a := w) (b := 10) rfl rfl (by omega) (by omega)).mp c129_0) (by omega)
  by_cases sw1_9 : nI w = 9
  · refine z_stk (b := [.int 9]) (by rw [sw1_9]) ?_
    refine lv_tableIn (off := 140) (tgt := 141) hx hb dX9_counted_1 (by decide) (by decide) rfl (by decide) ?_
    have ksw1 : w = 9 := (zn_eq rfl rfl (by omega) (by omega)).mp sw1_9
    refine lv_aload_n hx hb dX9_counted_141 rfl (lv_at hl 0 rfl) ?_
    refine z_get X (hP.at 0 0 rfl rfl) zF_RX9_7_12 rfl dX9_counted_142 ?_
    refine lv_bipush (v := 7) hx hb dX9_counted_145 (by decide) ?_
    refine z_iald X (j := 7) (hP.at 1 0 rfl rfl) rfl (by omega) (by decide) dX9_counted_147 ?_
    refine zRO.iret X hr hlocks ?_ dX9_counted_148
    rw [ksw1]
    rfl
  by_cases sw1_10 : nI w = 10
  · refine z_stk (b := [.int 10]) (by rw [sw1_10]) ?_
    refine lv_tableIn (off := 124) (tgt := 125) hx hb dX9_counted_1 (by decide) (by decide) rfl (by decide) ?_
    have ksw1 : w = 10 := (zn_eq rfl rfl (by omega) (by omega)).mp sw1_10
    refine lv_aload_n hx hb dX9_counted_125 rfl (lv_at hl 0 rfl) ?_
    refine lv_iload_n hx hb dX9_counted_126 rfl (lv_at hl 1 rfl) ?_
    refine lv_bipush (v := 10) hx hb dX9_counted_127 (by decide) ?_
    refine lv_icmp_ne (tgt := 136) hx hb dX9_counted_129 (by decide) (fun c129_1 => ?_) (fun c129_1 => ?_)
    · exact absurd (by rw [ksw1]; rfl) c129_1
    · skip
      have kc129_1 := (zn_eq (a := w) (b := 10) rfl rfl (by omega) (by omega)).mp c129_1
      refine lv_iconst (v := 1) hx hb dX9_counted_132 rfl ?_
      refine lv_goto (tgt := 137) hx hb dX9_counted_133 (by decide) ?_
      refine zc_ro (zr_V (As := [.int 1]) (rest := []) X (m_X9_many l g x a0 a1 a2 a3 a4 a5 a6 k ty at_ tl thr val bF bC f true n (by omega) (by first | exact h6c | exact h6 | (simp (disch := omega) only [upd_n]; first | exact h6c | exact h6))) zL_RX9_212 (ci := 12) rfl (hP.at 0 0 rfl rfl) (zH.cons (va_P.one (hP.at 0 0 rfl rfl)) (zH.cons (va_P.one (hP.at 1 0 rfl rfl)) zH.nil)) hS hA0 hls rfl (Nat.le_of_ble_eq_true rfl) ⟨rfl, rfl, Nat.le_of_ble_eq_true rfl, Nat.le_of_ble_eq_true rfl, (Nat.le_of_ble_eq_true rfl), (Nat.le_of_ble_eq_true rfl)⟩ dX9_counted_137) ?_
      refine zRO.iret X hr hlocks ?_ dX9_counted_140
      rw [ksw1]
      rfl
  have ksw1_0 : ¬ w = 0 := fun h => sw1_0 (by rw [show (nI w) = nI w from rfl, h]; rfl)
  have ksw1_1 : ¬ w = 1 := fun h => sw1_1 (by rw [show (nI w) = nI w from rfl, h]; rfl)
  have ksw1_2 : ¬ w = 2 := fun h => sw1_2 (by rw [show (nI w) = nI w from rfl, h]; rfl)
  have ksw1_3 : ¬ w = 3 := fun h => sw1_3 (by rw [show (nI w) = nI w from rfl, h]; rfl)
  have ksw1_4 : ¬ w = 4 := fun h => sw1_4 (by rw [show (nI w) = nI w from rfl, h]; rfl)
  have ksw1_5 : ¬ w = 5 := fun h => sw1_5 (by rw [show (nI w) = nI w from rfl, h]; rfl)
  have ksw1_6 : ¬ w = 6 := fun h => sw1_6 (by rw [show (nI w) = nI w from rfl, h]; rfl)
  have ksw1_7 : ¬ w = 7 := fun h => sw1_7 (by rw [show (nI w) = nI w from rfl, h]; rfl)
  have ksw1_8 : ¬ w = 8 := fun h => sw1_8 (by rw [show (nI w) = nI w from rfl, h]; rfl)
  have ksw1_9 : ¬ w = 9 := fun h => sw1_9 (by rw [show (nI w) = nI w from rfl, h]; rfl)
  have ksw1_10 : ¬ w = 10 := fun h => sw1_10 (by rw [show (nI w) = nI w from rfl, h]; rfl)
  refine lv_tableOut (tgt := 149) hx hb dX9_counted_1 (Or.inr (by rw [show (nI w) = nI w from rfl, nI_toInt (show w < 2 ^ 31 by omega)]; omega)) (by decide) ?_
  refine lv_aload_n hx hb dX9_counted_149 rfl (lv_at hl 0 rfl) ?_
  refine z_get X (hP.at 0 0 rfl rfl) zF_RX9_40_12 rfl dX9_counted_150 ?_
  refine zRO.iret X hr hlocks ?_ dX9_counted_153
  have hw11 : w = 11 := by omega
  subst hw11
  rfl

abbrev rm_X9_count_bad : Room := { frames := 1, cells := 0, slots := 0, locals := 22 }
set_option maxHeartbeats 4000000 in
set_option maxRecDepth 100000 in
theorem m_X9_count_bad (l : Launch) (g : zG) (x a0 a1 a2 a3 a4 a5 a6 : Nat) (k ty at_ tl : Nat) (thr val : Int32) (bF bC : Bool) (q : Int32) (hbad : m_in q 0 11 = false) (sz : Nat) : zWR l yX9_count cX9_count 2 (Option.some Jvm.ClassFile.FieldType.int) rm_X9_count_bad g [.ref x, .int q] ([[(x, .inr (12, [.ref a0, .ref a1, .ref a2, .int (nI k), .ref a3, .ref a4, .ref a5, .int (nI ty), .int thr, .int (nI at_), .int (zb bF), .int val, .ref a6, .int (nI tl), .int (zb bC)]))]] : List va_W) 0 0 sz (fun zv gs' => zv = some (.int (0)) ∧ gs' = [[(x, .inr (12, [.ref a0, .ref a1, .ref a2, .int (nI k), .ref a3, .ref a4, .ref a5, .int (nI ty), .int 1, .int (nI at_), .int (zb bF), .int val, .ref a6, .int (nI tl), .int (zb bC)]))]]) := by
  refine zWR.start (by decide) (Nat.le_of_ble_eq_true rfl) ?_
  intro zp ze s zm zbl zmt zc ls A X hr hlocks hinn hl hAe hW hS hA hA0
  have hx := X.1
  have hb := X.2.1
  have hml := X.2.2.1
  have hown := X.2.2.2.1
  have hls := hl.1
  have hl : lv_has ls 2 [(0, .ref x), (1, .int q)] := hl
  refine lv_aload_n hx hb dX9_count_0 rfl (lv_at hl 0 rfl) ?_
  refine lv_iconst (v := 0) hx hb dX9_count_1 rfl ?_
  refine z_put X hW hS 0 0 rfl rfl zP_RX9_32_12 rfl rfl (Nat.le_of_ble_eq_true rfl) dX9_count_2 (fun H locs hW hS => ?_)
  have hW : zW g A ([[(x, .inr (12, [.ref a0, .ref a1, .ref a2, .int (nI k), .ref a3, .ref a4, .ref a5, .int (nI ty), .int 0, .int (nI at_), .int (zb bF), .int val, .ref a6, .int (nI tl), .int (zb bC)]))]] : List va_W) H := hW
  refine lv_iload_n hx hb dX9_count_5 rfl (lv_at hl 1 rfl) ?_
  refine lv_iconst (v := 0) hx hb dX9_count_6 rfl ?_
  refine lv_bipush (v := 11) hx hb dX9_count_7 (by decide) ?_
  refine zc_ro (zr_S (As := [.int q, .int 0, .int 11]) (rest := []) X (m_X9_in l g q 0 11) zL_RX9_36 trivial hS hA0 hls rfl (Nat.le_of_ble_eq_true rfl) ⟨rfl, rfl, Nat.le_of_ble_eq_true rfl, Nat.le_of_ble_eq_true rfl, (Nat.le_of_ble_eq_true rfl), (Nat.le_of_ble_eq_true rfl)⟩ dX9_count_9) ?_
  refine zb_ifeq (tgt := 23) hx hb dX9_count_12 (by decide) (fun c12_0 => ?_) (fun c12_0 => ?_)
  · skip
    refine lv_aload_n hx hb dX9_count_23 rfl (lv_at hl 0 rfl) ?_
    refine lv_iconst (v := 1) hx hb dX9_count_24 rfl ?_
    refine zc_wr (gc := [[(x, .inr (12, [.ref a0, .ref a1, .ref a2, .int (nI k), .ref a3, .ref a4, .ref a5, .int (nI ty), .int 0, .int (nI at_), .int (zb bF), .int val, .ref a6, .int (nI tl), .int (zb bC)]))]]) (gr := []) (zr_V (As := [.int 1]) (rest := []) X (m_X9_fails l g x a0 a1 a2 a3 a4 a5 a6 k ty at_ tl 0 val bF bC 1 _) zL_RX9_47 (ci := 12) rfl (hW.H.at 0 0 rfl rfl) (zW.pre (gc := [[(x, .inr (12, [.ref a0, .ref a1, .ref a2, .int (nI k), .ref a3, .ref a4, .ref a5, .int (nI ty), .int 0, .int (nI at_), .int (zb bF), .int val, .ref a6, .int (nI tl), .int (zb bC)]))]]) (gr := []) hW hA0) hS hA0 hls rfl (Nat.le_of_ble_eq_true rfl) ⟨rfl, rfl, Nat.le_of_ble_eq_true rfl, Nat.le_of_ble_eq_true rfl, (Nat.le_of_ble_eq_true rfl), (Nat.le_of_ble_eq_true rfl)⟩ dX9_count_25) hW hS hA (fun v gc' H locs hpost hW hS => ?_)
    obtain ⟨rfl, rfl⟩ := hpost
    have hW : zW g A ([[(x, .inr (12, [.ref a0, .ref a1, .ref a2, .int (nI k), .ref a3, .ref a4, .ref a5, .int (nI ty), .int 1, .int (nI at_), .int (zb bF), .int val, .ref a6, .int (nI tl), .int (zb bC)]))]] : List va_W) H := hW
    refine W.eq (g2 := F0 zm 28 ls [.int 0]) rfl ?_
    refine zWR.iret X hAe hW hS hr hlocks ?_ (Nat.le_of_ble_eq_true rfl) (Nat.le_of_ble_eq_true rfl) dX9_count_28
    exact ⟨rfl, rfl⟩
  · exact absurd (hbad.symm.trans c12_0) (by decide)

abbrev rm_X9_count_ok : Room := { frames := 5, cells := 0, slots := 0, locals := 108 }
set_option maxHeartbeats 4000000 in
set_option maxRecDepth 100000 in
theorem m_X9_count_ok (l : Launch) (g : zG) (x a0 a1 a2 a3 a4 a5 a6 : Nat) (k ty at_ tl : Nat) (thr val : Int32) (bF bC : Bool) (f : Nat → Int32) (w n : Nat) (hw : w < 12) (hn : n ≤ 4) (h6 : f 6 = nI n) (sz : Nat) : zWR l yX9_count cX9_count 2 (Option.some Jvm.ClassFile.FieldType.int) rm_X9_count_ok g [.ref x, .int (nI w)] ([[(x, .inr (12, [.ref a0, .ref a1, .ref a2, .int (nI k), .ref a3, .ref a4, .ref a5, .int (nI ty), .int thr, .int (nI at_), .int (zb bF), .int val, .ref a6, .int (nI tl), .int (zb bC)]))], [(a0, .inl (g.2.1 0, 89, .inl f))]] : List va_W) 0 0 sz (fun zv gs' => zv = some (.int (m_cnt f n k w)) ∧ gs' = [[(x, .inr (12, [.ref a0, .ref a1, .ref a2, .int (nI k), .ref a3, .ref a4, .ref a5, .int (nI ty), .int 0, .int (nI at_), .int (zb bF), .int val, .ref a6, .int (nI tl), .int (zb bC)]))], [(a0, .inl (g.2.1 0, 89, .inl f))]]) := by
  refine zWR.start (by decide) (Nat.le_of_ble_eq_true rfl) ?_
  intro zp ze s zm zbl zmt zc ls A X hr hlocks hinn hl hAe hW hS hA hA0
  have hx := X.1
  have hb := X.2.1
  have hml := X.2.2.1
  have hown := X.2.2.2.1
  have hls := hl.1
  have hl : lv_has ls 2 [(0, .ref x), (1, .int (nI w))] := hl
  refine lv_aload_n hx hb dX9_count_0 rfl (lv_at hl 0 rfl) ?_
  refine lv_iconst (v := 0) hx hb dX9_count_1 rfl ?_
  refine z_put X hW hS 0 0 rfl rfl zP_RX9_32_12 rfl rfl (Nat.le_of_ble_eq_true rfl) dX9_count_2 (fun H locs hW hS => ?_)
  have hW : zW g A ([[(x, .inr (12, [.ref a0, .ref a1, .ref a2, .int (nI k), .ref a3, .ref a4, .ref a5, .int (nI ty), .int 0, .int (nI at_), .int (zb bF), .int val, .ref a6, .int (nI tl), .int (zb bC)]))], [(a0, .inl (g.2.1 0, 89, .inl f))]] : List va_W) H := hW
  refine lv_iload_n hx hb dX9_count_5 rfl (lv_at hl 1 rfl) ?_
  refine lv_iconst (v := 0) hx hb dX9_count_6 rfl ?_
  refine lv_bipush (v := 11) hx hb dX9_count_7 (by decide) ?_
  refine zc_ro (zr_S (As := [.int (nI w), .int 0, .int 11]) (rest := []) X (m_X9_in l g (nI w) 0 11) zL_RX9_36 trivial hS hA0 hls rfl (Nat.le_of_ble_eq_true rfl) ⟨rfl, rfl, Nat.le_of_ble_eq_true rfl, Nat.le_of_ble_eq_true rfl, (Nat.le_of_ble_eq_true rfl), (Nat.le_of_ble_eq_true rfl)⟩ dX9_count_9) ?_
  refine zb_ifeq (tgt := 23) hx hb dX9_count_12 (by decide) (fun c12_0 => ?_) (fun c12_0 => ?_)
  · exact absurd ((m_in_T (a := 0) (b := 11) rfl rfl rfl (by omega) (by omega) (by decide)).symm.trans c12_0) (by decide)
  · skip
    refine lv_aload_n hx hb dX9_count_15 rfl (lv_at hl 0 rfl) ?_
    refine lv_iload_n hx hb dX9_count_16 rfl (lv_at hl 1 rfl) ?_
    refine zc_ro (zr_V (As := [.int (nI w)]) (rest := []) X (m_X9_counted l g x a0 a1 a2 a3 a4 a5 a6 k ty at_ tl 0 val bF bC f w n (by omega) (by omega) (by first | exact h6c | exact h6 | (simp (disch := omega) only [upd_n]; first | exact h6c | exact h6))) zL_RX9_216 (ci := 12) rfl (hW.H.at 0 0 rfl rfl) (zH.cons (va_P.one (hW.H.at 0 0 rfl rfl)) (zH.cons (va_P.one (hW.H.at 1 0 rfl rfl)) zH.nil)) hS hA0 hls rfl (Nat.le_of_ble_eq_true rfl) ⟨rfl, rfl, Nat.le_of_ble_eq_true rfl, Nat.le_of_ble_eq_true rfl, (Nat.le_of_ble_eq_true rfl), (Nat.le_of_ble_eq_true rfl)⟩ dX9_count_17) ?_
    refine lv_goto (tgt := 28) hx hb dX9_count_20 (by decide) ?_
    refine zWR.iret X hAe hW hS hr hlocks ?_ (Nat.le_of_ble_eq_true rfl) (Nat.le_of_ble_eq_true rfl) dX9_count_28
    exact ⟨rfl, rfl⟩

abbrev rm_X9_setting_bad : Room := { frames := 1, cells := 0, slots := 0, locals := 22 }
set_option maxHeartbeats 4000000 in
set_option maxRecDepth 100000 in
theorem m_X9_setting_bad (l : Launch) (g : zG) (x a0 a1 a2 a3 a4 a5 a6 : Nat) (k ty at_ tl : Nat) (thr val : Int32) (bF bC : Bool) (q : Int32) (hbad : m_in q 0 3 = false) (sz : Nat) : zWR l yX9_setting cX9_setting 2 (Option.some Jvm.ClassFile.FieldType.int) rm_X9_setting_bad g [.ref x, .int q] ([[(x, .inr (12, [.ref a0, .ref a1, .ref a2, .int (nI k), .ref a3, .ref a4, .ref a5, .int (nI ty), .int thr, .int (nI at_), .int (zb bF), .int val, .ref a6, .int (nI tl), .int (zb bC)]))]] : List va_W) 0 0 sz (fun zv gs' => zv = some (.int (0)) ∧ gs' = [[(x, .inr (12, [.ref a0, .ref a1, .ref a2, .int (nI k), .ref a3, .ref a4, .ref a5, .int (nI ty), .int 1, .int (nI at_), .int (zb bF), .int val, .ref a6, .int (nI tl), .int (zb bC)]))]]) := by
  refine zWR.start (by decide) (Nat.le_of_ble_eq_true rfl) ?_
  intro zp ze s zm zbl zmt zc ls A X hr hlocks hinn hl hAe hW hS hA hA0
  have hx := X.1
  have hb := X.2.1
  have hml := X.2.2.1
  have hown := X.2.2.2.1
  have hls := hl.1
  have hl : lv_has ls 2 [(0, .ref x), (1, .int q)] := hl
  refine lv_aload_n hx hb dX9_setting_0 rfl (lv_at hl 0 rfl) ?_
  refine lv_iconst (v := 0) hx hb dX9_setting_1 rfl ?_
  refine z_put X hW hS 0 0 rfl rfl zP_RX9_32_12 rfl rfl (Nat.le_of_ble_eq_true rfl) dX9_setting_2 (fun H locs hW hS => ?_)
  have hW : zW g A ([[(x, .inr (12, [.ref a0, .ref a1, .ref a2, .int (nI k), .ref a3, .ref a4, .ref a5, .int (nI ty), .int 0, .int (nI at_), .int (zb bF), .int val, .ref a6, .int (nI tl), .int (zb bC)]))]] : List va_W) H := hW
  refine lv_iload_n hx hb dX9_setting_5 rfl (lv_at hl 1 rfl) ?_
  refine lv_iconst (v := 0) hx hb dX9_setting_6 rfl ?_
  refine lv_iconst (v := 3) hx hb dX9_setting_7 rfl ?_
  refine zc_ro (zr_S (As := [.int q, .int 0, .int 3]) (rest := []) X (m_X9_in l g q 0 3) zL_RX9_36 trivial hS hA0 hls rfl (Nat.le_of_ble_eq_true rfl) ⟨rfl, rfl, Nat.le_of_ble_eq_true rfl, Nat.le_of_ble_eq_true rfl, (Nat.le_of_ble_eq_true rfl), (Nat.le_of_ble_eq_true rfl)⟩ dX9_setting_8) ?_
  refine zb_ifeq (tgt := 23) hx hb dX9_setting_11 (by decide) (fun c11_0 => ?_) (fun c11_0 => ?_)
  · skip
    refine lv_aload_n hx hb dX9_setting_23 rfl (lv_at hl 0 rfl) ?_
    refine lv_iconst (v := 1) hx hb dX9_setting_24 rfl ?_
    refine zc_wr (gc := [[(x, .inr (12, [.ref a0, .ref a1, .ref a2, .int (nI k), .ref a3, .ref a4, .ref a5, .int (nI ty), .int 0, .int (nI at_), .int (zb bF), .int val, .ref a6, .int (nI tl), .int (zb bC)]))]]) (gr := []) (zr_V (As := [.int 1]) (rest := []) X (m_X9_fails l g x a0 a1 a2 a3 a4 a5 a6 k ty at_ tl 0 val bF bC 1 _) zL_RX9_47 (ci := 12) rfl (hW.H.at 0 0 rfl rfl) (zW.pre (gc := [[(x, .inr (12, [.ref a0, .ref a1, .ref a2, .int (nI k), .ref a3, .ref a4, .ref a5, .int (nI ty), .int 0, .int (nI at_), .int (zb bF), .int val, .ref a6, .int (nI tl), .int (zb bC)]))]]) (gr := []) hW hA0) hS hA0 hls rfl (Nat.le_of_ble_eq_true rfl) ⟨rfl, rfl, Nat.le_of_ble_eq_true rfl, Nat.le_of_ble_eq_true rfl, (Nat.le_of_ble_eq_true rfl), (Nat.le_of_ble_eq_true rfl)⟩ dX9_setting_25) hW hS hA (fun v gc' H locs hpost hW hS => ?_)
    obtain ⟨rfl, rfl⟩ := hpost
    have hW : zW g A ([[(x, .inr (12, [.ref a0, .ref a1, .ref a2, .int (nI k), .ref a3, .ref a4, .ref a5, .int (nI ty), .int 1, .int (nI at_), .int (zb bF), .int val, .ref a6, .int (nI tl), .int (zb bC)]))]] : List va_W) H := hW
    refine W.eq (g2 := F0 zm 28 ls [.int 0]) rfl ?_
    refine zWR.iret X hAe hW hS hr hlocks ?_ (Nat.le_of_ble_eq_true rfl) (Nat.le_of_ble_eq_true rfl) dX9_setting_28
    exact ⟨rfl, rfl⟩
  · exact absurd (hbad.symm.trans c11_0) (by decide)

abbrev rm_X9_setting_ok : Room := { frames := 1, cells := 0, slots := 0, locals := 22 }
set_option maxHeartbeats 4000000 in
set_option maxRecDepth 100000 in
theorem m_X9_setting_ok (l : Launch) (g : zG) (x a0 a1 a2 a3 a4 a5 a6 : Nat) (k ty at_ tl : Nat) (thr val : Int32) (bF bC : Bool) (f : Nat → Int32) (q : Nat) (hq : q < 4) (sz : Nat) : zWR l yX9_setting cX9_setting 2 (Option.some Jvm.ClassFile.FieldType.int) rm_X9_setting_ok g [.ref x, .int (nI q)] ([[(x, .inr (12, [.ref a0, .ref a1, .ref a2, .int (nI k), .ref a3, .ref a4, .ref a5, .int (nI ty), .int thr, .int (nI at_), .int (zb bF), .int val, .ref a6, .int (nI tl), .int (zb bC)]))], [(a0, .inl (g.2.1 0, 89, .inl f))]] : List va_W) 0 0 sz (fun zv gs' => zv = some (.int (f q)) ∧ gs' = [[(x, .inr (12, [.ref a0, .ref a1, .ref a2, .int (nI k), .ref a3, .ref a4, .ref a5, .int (nI ty), .int 0, .int (nI at_), .int (zb bF), .int val, .ref a6, .int (nI tl), .int (zb bC)]))], [(a0, .inl (g.2.1 0, 89, .inl f))]]) := by
  refine zWR.start (by decide) (Nat.le_of_ble_eq_true rfl) ?_
  intro zp ze s zm zbl zmt zc ls A X hr hlocks hinn hl hAe hW hS hA hA0
  have hx := X.1
  have hb := X.2.1
  have hml := X.2.2.1
  have hown := X.2.2.2.1
  have hls := hl.1
  have hl : lv_has ls 2 [(0, .ref x), (1, .int (nI q))] := hl
  refine lv_aload_n hx hb dX9_setting_0 rfl (lv_at hl 0 rfl) ?_
  refine lv_iconst (v := 0) hx hb dX9_setting_1 rfl ?_
  refine z_put X hW hS 0 0 rfl rfl zP_RX9_32_12 rfl rfl (Nat.le_of_ble_eq_true rfl) dX9_setting_2 (fun H locs hW hS => ?_)
  have hW : zW g A ([[(x, .inr (12, [.ref a0, .ref a1, .ref a2, .int (nI k), .ref a3, .ref a4, .ref a5, .int (nI ty), .int 0, .int (nI at_), .int (zb bF), .int val, .ref a6, .int (nI tl), .int (zb bC)]))], [(a0, .inl (g.2.1 0, 89, .inl f))]] : List va_W) H := hW
  refine lv_iload_n hx hb dX9_setting_5 rfl (lv_at hl 1 rfl) ?_
  refine lv_iconst (v := 0) hx hb dX9_setting_6 rfl ?_
  refine lv_iconst (v := 3) hx hb dX9_setting_7 rfl ?_
  refine zc_ro (zr_S (As := [.int (nI q), .int 0, .int 3]) (rest := []) X (m_X9_in l g (nI q) 0 3) zL_RX9_36 trivial hS hA0 hls rfl (Nat.le_of_ble_eq_true rfl) ⟨rfl, rfl, Nat.le_of_ble_eq_true rfl, Nat.le_of_ble_eq_true rfl, (Nat.le_of_ble_eq_true rfl), (Nat.le_of_ble_eq_true rfl)⟩ dX9_setting_8) ?_
  refine zb_ifeq (tgt := 23) hx hb dX9_setting_11 (by decide) (fun c11_0 => ?_) (fun c11_0 => ?_)
  · exact absurd ((m_in_T (a := 0) (b := 3) rfl rfl rfl (by omega) (by omega) (by decide)).symm.trans c11_0) (by decide)
  · skip
    refine lv_aload_n hx hb dX9_setting_14 rfl (lv_at hl 0 rfl) ?_
    refine z_get X (hW.H.at 0 0 rfl rfl) zF_RX9_7_12 rfl dX9_setting_15 ?_
    refine lv_iload_n hx hb dX9_setting_18 rfl (lv_at hl 1 rfl) ?_
    refine z_iald X (j := q) (hW.H.at 1 0 rfl rfl) rfl (by omega) (by decide) dX9_setting_19 ?_
    refine lv_goto (tgt := 28) hx hb dX9_setting_20 (by decide) ?_
    refine zWR.iret X hAe hW hS hr hlocks ?_ (Nat.le_of_ble_eq_true rfl) (Nat.le_of_ble_eq_true rfl) dX9_setting_28
    exact ⟨rfl, rfl⟩

abbrev rm_X9_best : Room := { frames := 3, cells := 0, slots := 0, locals := 68 }
set_option maxHeartbeats 4000000 in
set_option maxRecDepth 100000 in
theorem m_X9_best (l : Launch) (g : zG) (x a0 a1 a2 a3 a4 a5 a6 : Nat) (k ty at_ tl : Nat) (thr val : Int32) (bF bC : Bool) (f : Nat → Int32) (n : Nat) (hn : n ≤ 4) (h6 : f 6 = nI n) (sz : Nat) : zWR l yX9_best cX9_best 1 (Option.some Jvm.ClassFile.FieldType.int) rm_X9_best g [.ref x] ([[(x, .inr (12, [.ref a0, .ref a1, .ref a2, .int (nI k), .ref a3, .ref a4, .ref a5, .int (nI ty), .int thr, .int (nI at_), .int (zb bF), .int val, .ref a6, .int (nI tl), .int (zb bC)]))], [(a0, .inl (g.2.1 0, 89, .inl f))]] : List va_W) 0 0 sz (fun zv gs' => zv = some (.int (m_best f n)) ∧ gs' = [[(x, .inr (12, [.ref a0, .ref a1, .ref a2, .int (nI k), .ref a3, .ref a4, .ref a5, .int (nI ty), .int 0, .int (nI at_), .int (zb bF), .int val, .ref a6, .int (nI tl), .int (zb bC)]))], [(a0, .inl (g.2.1 0, 89, .inl f))]]) := by
  refine zWR.start (by decide) (Nat.le_of_ble_eq_true rfl) ?_
  intro zp ze s zm zbl zmt zc ls A X hr hlocks hinn hl hAe hW hS hA hA0
  have hx := X.1
  have hb := X.2.1
  have hml := X.2.2.1
  have hown := X.2.2.2.1
  have hls := hl.1
  have hl : lv_has ls 1 [(0, .ref x)] := hl
  refine lv_aload_n hx hb dX9_best_0 rfl (lv_at hl 0 rfl) ?_
  refine lv_iconst (v := 0) hx hb dX9_best_1 rfl ?_
  refine z_put X hW hS 0 0 rfl rfl zP_RX9_32_12 rfl rfl (Nat.le_of_ble_eq_true rfl) dX9_best_2 (fun H locs hW hS => ?_)
  have hW : zW g A ([[(x, .inr (12, [.ref a0, .ref a1, .ref a2, .int (nI k), .ref a3, .ref a4, .ref a5, .int (nI ty), .int 0, .int (nI at_), .int (zb bF), .int val, .ref a6, .int (nI tl), .int (zb bC)]))], [(a0, .inl (g.2.1 0, 89, .inl f))]] : List va_W) H := hW
  refine lv_aload_n hx hb dX9_best_5 rfl (lv_at hl 0 rfl) ?_
  refine z_get X (hW.H.at 0 0 rfl rfl) zF_RX9_7_12 rfl dX9_best_6 ?_
  refine zc_ro (zr_S (As := [.ref a0]) (rest := []) X (m_X9_bestOf l g a0 f n (by omega) (by first | exact h6c | exact h6 | (simp (disch := omega) only [upd_n]; first | exact h6c | exact h6))) zL_RX9_85 (zH.cons (va_P.one (hW.H.at 1 0 rfl rfl)) zH.nil) hS hA0 hls rfl (Nat.le_of_ble_eq_true rfl) ⟨rfl, rfl, Nat.le_of_ble_eq_true rfl, Nat.le_of_ble_eq_true rfl, (Nat.le_of_ble_eq_true rfl), (Nat.le_of_ble_eq_true rfl)⟩ dX9_best_9) ?_
  refine zWR.iret X hAe hW hS hr hlocks ?_ (Nat.le_of_ble_eq_true rfl) (Nat.le_of_ble_eq_true rfl) dX9_best_12
  exact ⟨rfl, rfl⟩
