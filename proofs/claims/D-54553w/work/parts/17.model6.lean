set_option maxRecDepth 100000
theorem zL_RX9_138 : zLV RX9 138 RX9 yX9_mayPass cX9_mayPass 2 (Option.some Jvm.ClassFile.FieldType.boolean) 1 := ⟨.inl q1746, q1748, qs52, q103, rfl, q1749, ⟨by decide +kernel, by decide +kernel, by decide +kernel⟩⟩
theorem zL_RX9_141 : zLS RX9 141 yX9_onMeadows cX9_onMeadows 3 (Option.some Jvm.ClassFile.FieldType.int) 1 := ⟨.inl q1750, q1751, q103, q1752, ⟨by decide +kernel, by decide +kernel, by decide +kernel⟩⟩
theorem zL_RX9_144 : zLV RX9 144 RX9 yX9_days cX9_days 4 (Option.none : Option Jvm.ClassFile.FieldType) 2 := ⟨.inl q1753, q1755, qs53, q103, rfl, q1756, ⟨by decide +kernel, by decide +kernel, by decide +kernel⟩⟩
theorem zL_RX9_147 : zLS RX9 147 yX9_isFor cX9_isFor 2 (Option.some Jvm.ClassFile.FieldType.boolean) 2 := ⟨.inl q1807, q1808, q103, q1809, ⟨by decide +kernel, by decide +kernel, by decide +kernel⟩⟩
theorem zF_RX9_19_12 : zF RX9 19 12 4 := ⟨RX9, TX9, 15, "SpoilMeadowsModel", rfl, in_X9, by decide, .inl q1606, .inl rfl⟩
theorem zF_RX9_22_12 : zF RX9 22 12 5 := ⟨RX9, TX9, 15, "SpoilMeadowsModel", rfl, in_X9, by decide, .inl q1607, .inl rfl⟩
abbrev rm_X9_consent_bad : Room := { frames := 2, cells := 0, slots := 0, locals := 42 }
set_option maxHeartbeats 4000000 in
set_option maxRecDepth 100000 in
theorem m_X9_consent_bad (l : Launch) (g : zG) (x a0 a1 a2 a3 a4 a5 a6 : Nat) (k ty at_ tl : Nat) (thr val : Int32) (bF bC : Bool) (q u v : Int32) (hbad : (m_in q 0 4 && m_in u 0 9999 && m_in v 0 9999) = false) (sz : Nat) : zWR l yX9_consent cX9_consent 6 (Option.some Jvm.ClassFile.FieldType.int) rm_X9_consent_bad g [.ref x, .int q, .int u, .int v] ([[(x, .inr (12, [.ref a0, .ref a1, .ref a2, .int (nI k), .ref a3, .ref a4, .ref a5, .int (nI ty), .int thr, .int (nI at_), .int (zb bF), .int val, .ref a6, .int (nI tl), .int (zb bC)]))]] : List va_W) 0 0 sz (fun zv gs' => zv = some (.int (0)) ∧ gs' = [[(x, .inr (12, [.ref a0, .ref a1, .ref a2, .int (nI k), .ref a3, .ref a4, .ref a5, .int (nI ty), .int 1, .int (nI at_), .int (zb bF), .int val, .ref a6, .int (nI tl), .int (zb bC)]))]]) := by
  refine zWR.start (by decide) (Nat.le_of_ble_eq_true rfl) ?_
  intro zp ze s zm zbl zmt zc ls A X hr hlocks hinn hl hAe hW hS hA hA0
  have hx := X.1
  have hb := X.2.1
  have hml := X.2.2.1
  have hown := X.2.2.2.1
  have hls := hl.1
  have hl : lv_has ls 6 [(0, .ref x), (1, .int q), (2, .int u), (3, .int v)] := hl
  refine lv_aload_n hx hb dX9_consent_0 rfl (lv_at hl 0 rfl) ?_
  refine lv_iconst (v := 0) hx hb dX9_consent_1 rfl ?_
  refine z_put X hW hS 0 0 rfl rfl zP_RX9_32_12 rfl rfl (Nat.le_of_ble_eq_true rfl) dX9_consent_2 (fun H locs hW hS => ?_)
  have hW : zW g A ([[(x, .inr (12, [.ref a0, .ref a1, .ref a2, .int (nI k), .ref a3, .ref a4, .ref a5, .int (nI ty), .int 0, .int (nI at_), .int (zb bF), .int val, .ref a6, .int (nI tl), .int (zb bC)]))]] : List va_W) H := hW
  refine lv_iload_n hx hb dX9_consent_5 rfl (lv_at hl 1 rfl) ?_
  refine zc_ro (zr_S (As := [.int q]) (rest := []) X (m_X9_isMeadow l g q) zL_RX9_129 trivial hS hA0 hls rfl (Nat.le_of_ble_eq_true rfl) ⟨rfl, rfl, Nat.le_of_ble_eq_true rfl, Nat.le_of_ble_eq_true rfl, (Nat.le_of_ble_eq_true rfl), (Nat.le_of_ble_eq_true rfl)⟩ dX9_consent_6) ?_
  refine zb_ifeq (tgt := 34) hx hb dX9_consent_9 (by decide) (fun c9_0 => ?_) (fun c9_0 => ?_)
  · skip
    refine lv_aload_n hx hb dX9_consent_34 rfl (lv_at hl 0 rfl) ?_
    refine lv_iconst (v := 1) hx hb dX9_consent_35 rfl ?_
    refine zc_wr (gc := [[(x, .inr (12, [.ref a0, .ref a1, .ref a2, .int (nI k), .ref a3, .ref a4, .ref a5, .int (nI ty), .int 0, .int (nI at_), .int (zb bF), .int val, .ref a6, .int (nI tl), .int (zb bC)]))]]) (gr := []) (zr_V (As := [.int 1]) (rest := []) X (m_X9_fails l g x a0 a1 a2 a3 a4 a5 a6 k ty at_ tl 0 val bF bC 1 _) zL_RX9_47 (ci := 12) rfl (hW.H.at 0 0 rfl rfl) (zW.pre (gc := [[(x, .inr (12, [.ref a0, .ref a1, .ref a2, .int (nI k), .ref a3, .ref a4, .ref a5, .int (nI ty), .int 0, .int (nI at_), .int (zb bF), .int val, .ref a6, .int (nI tl), .int (zb bC)]))]]) (gr := []) hW hA0) hS hA0 hls rfl (Nat.le_of_ble_eq_true rfl) ⟨rfl, rfl, Nat.le_of_ble_eq_true rfl, Nat.le_of_ble_eq_true rfl, (Nat.le_of_ble_eq_true rfl), (Nat.le_of_ble_eq_true rfl)⟩ dX9_consent_36) hW hS hA (fun v gc' H locs hpost hW hS => ?_)
    obtain ⟨rfl, rfl⟩ := hpost
    have hW : zW g A ([[(x, .inr (12, [.ref a0, .ref a1, .ref a2, .int (nI k), .ref a3, .ref a4, .ref a5, .int (nI ty), .int 1, .int (nI at_), .int (zb bF), .int val, .ref a6, .int (nI tl), .int (zb bC)]))]] : List va_W) H := hW
    refine W.eq (g2 := F0 zm 39 ls [.int 0]) rfl ?_
    refine zWR.iret X hAe hW hS hr hlocks ?_ (Nat.le_of_ble_eq_true rfl) (Nat.le_of_ble_eq_true rfl) dX9_consent_39
    exact ⟨rfl, rfl⟩
  · skip
    refine lv_iload_n hx hb dX9_consent_12 rfl (lv_at hl 2 rfl) ?_
    refine lv_iconst (v := 0) hx hb dX9_consent_13 rfl ?_
    refine lv_sipush (v := 9999) hx hb dX9_consent_14 (by decide) ?_
    refine zc_ro (zr_S (As := [.int u, .int 0, .int 9999]) (rest := []) X (m_X9_in l g u 0 9999) zL_RX9_36 trivial hS hA0 hls rfl (Nat.le_of_ble_eq_true rfl) ⟨rfl, rfl, Nat.le_of_ble_eq_true rfl, Nat.le_of_ble_eq_true rfl, (Nat.le_of_ble_eq_true rfl), (Nat.le_of_ble_eq_true rfl)⟩ dX9_consent_17) ?_
    refine zb_ifeq (tgt := 34) hx hb dX9_consent_20 (by decide) (fun c20_1 => ?_) (fun c20_1 => ?_)
    · skip
      refine lv_aload_n hx hb dX9_consent_34 rfl (lv_at hl 0 rfl) ?_
      refine lv_iconst (v := 1) hx hb dX9_consent_35 rfl ?_
      refine zc_wr (gc := [[(x, .inr (12, [.ref a0, .ref a1, .ref a2, .int (nI k), .ref a3, .ref a4, .ref a5, .int (nI ty), .int 0, .int (nI at_), .int (zb bF), .int val, .ref a6, .int (nI tl), .int (zb bC)]))]]) (gr := []) (zr_V (As := [.int 1]) (rest := []) X (m_X9_fails l g x a0 a1 a2 a3 a4 a5 a6 k ty at_ tl 0 val bF bC 1 _) zL_RX9_47 (ci := 12) rfl (hW.H.at 0 0 rfl rfl) (zW.pre (gc := [[(x, .inr (12, [.ref a0, .ref a1, .ref a2, .int (nI k), .ref a3, .ref a4, .ref a5, .int (nI ty), .int 0, .int (nI at_), .int (zb bF), .int val, .ref a6, .int (nI tl), .int (zb bC)]))]]) (gr := []) hW hA0) hS hA0 hls rfl (Nat.le_of_ble_eq_true rfl) ⟨rfl, rfl, Nat.le_of_ble_eq_true rfl, Nat.le_of_ble_eq_true rfl, (Nat.le_of_ble_eq_true rfl), (Nat.le_of_ble_eq_true rfl)⟩ dX9_consent_36) hW hS hA (fun v gc' H locs hpost hW hS => ?_)
      obtain ⟨rfl, rfl⟩ := hpost
      have hW : zW g A ([[(x, .inr (12, [.ref a0, .ref a1, .ref a2, .int (nI k), .ref a3, .ref a4, .ref a5, .int (nI ty), .int 1, .int (nI at_), .int (zb bF), .int val, .ref a6, .int (nI tl), .int (zb bC)]))]] : List va_W) H := hW
      refine W.eq (g2 := F0 zm 39 ls [.int 0]) rfl ?_
      refine zWR.iret X hAe hW hS hr hlocks ?_ (Nat.le_of_ble_eq_true rfl) (Nat.le_of_ble_eq_true rfl) dX9_consent_39
      exact ⟨rfl, rfl⟩
    · skip
      refine lv_iload_n hx hb dX9_consent_23 rfl (lv_at hl 3 rfl) ?_
      refine lv_iconst (v := 0) hx hb dX9_consent_24 rfl ?_
      refine lv_sipush (v := 9999) hx hb dX9_consent_25 (by decide) ?_
      refine zc_ro (zr_S (As := [.int v, .int 0, .int 9999]) (rest := []) X (m_X9_in l g v 0 9999) zL_RX9_36 trivial hS hA0 hls rfl (Nat.le_of_ble_eq_true rfl) ⟨rfl, rfl, Nat.le_of_ble_eq_true rfl, Nat.le_of_ble_eq_true rfl, (Nat.le_of_ble_eq_true rfl), (Nat.le_of_ble_eq_true rfl)⟩ dX9_consent_28) ?_
      refine zb_ifne (tgt := 40) hx hb dX9_consent_31 (by decide) (fun c31_2 => ?_) (fun c31_2 => ?_)
      · exact absurd hbad (by simp [c9_0, c20_1, c31_2])
      · skip
        refine lv_aload_n hx hb dX9_consent_34 rfl (lv_at hl 0 rfl) ?_
        refine lv_iconst (v := 1) hx hb dX9_consent_35 rfl ?_
        refine zc_wr (gc := [[(x, .inr (12, [.ref a0, .ref a1, .ref a2, .int (nI k), .ref a3, .ref a4, .ref a5, .int (nI ty), .int 0, .int (nI at_), .int (zb bF), .int val, .ref a6, .int (nI tl), .int (zb bC)]))]]) (gr := []) (zr_V (As := [.int 1]) (rest := []) X (m_X9_fails l g x a0 a1 a2 a3 a4 a5 a6 k ty at_ tl 0 val bF bC 1 _) zL_RX9_47 (ci := 12) rfl (hW.H.at 0 0 rfl rfl) (zW.pre (gc := [[(x, .inr (12, [.ref a0, .ref a1, .ref a2, .int (nI k), .ref a3, .ref a4, .ref a5, .int (nI ty), .int 0, .int (nI at_), .int (zb bF), .int val, .ref a6, .int (nI tl), .int (zb bC)]))]]) (gr := []) hW hA0) hS hA0 hls rfl (Nat.le_of_ble_eq_true rfl) ⟨rfl, rfl, Nat.le_of_ble_eq_true rfl, Nat.le_of_ble_eq_true rfl, (Nat.le_of_ble_eq_true rfl), (Nat.le_of_ble_eq_true rfl)⟩ dX9_consent_36) hW hS hA (fun v gc' H locs hpost hW hS => ?_)
        obtain ⟨rfl, rfl⟩ := hpost
        have hW : zW g A ([[(x, .inr (12, [.ref a0, .ref a1, .ref a2, .int (nI k), .ref a3, .ref a4, .ref a5, .int (nI ty), .int 1, .int (nI at_), .int (zb bF), .int val, .ref a6, .int (nI tl), .int (zb bC)]))]] : List va_W) H := hW
        refine W.eq (g2 := F0 zm 39 ls [.int 0]) rfl ?_
        refine zWR.iret X hAe hW hS hr hlocks ?_ (Nat.le_of_ble_eq_true rfl) (Nat.le_of_ble_eq_true rfl) dX9_consent_39
        exact ⟨rfl, rfl⟩

abbrev rm_X9_consent_ok : Room := { frames := 2, cells := 0, slots := 0, locals := 45 }
set_option maxHeartbeats 4000000 in
set_option maxRecDepth 100000 in
theorem m_X9_consent_ok (l : Launch) (g : zG) (x a0 a1 a2 a3 a4 a5 a6 : Nat) (k ty at_ tl : Nat) (thr val : Int32) (bF bC : Bool) (f pa : Nat → Int32) (q : Nat) (u v : Int32) (hq : q < 5) (hu : m_in u 0 9999 = true) (hv : m_in v 0 9999 = true) (hk : k ≤ 6) (sz : Nat) : zWR l yX9_consent cX9_consent 6 (Option.some Jvm.ClassFile.FieldType.int) rm_X9_consent_ok g [.ref x, .int (nI q), .int u, .int v] ([[(x, .inr (12, [.ref a0, .ref a1, .ref a2, .int (nI k), .ref a3, .ref a4, .ref a5, .int (nI ty), .int thr, .int (nI at_), .int (zb bF), .int val, .ref a6, .int (nI tl), .int (zb bC)]))], [(a0, .inl (g.2.1 0, 89, .inl f))], [(a2, .inl (g.2.1 0, 534, .inl pa))]] : List va_W) 0 0 sz (fun zv gs' => zv = some (.int (m_runsL (m_cons f q u v) 5)) ∧ gs' = [[(x, .inr (12, [.ref a0, .ref a1, .ref a2, .int (nI (m_sk k + 1)), .ref a3, .ref a4, .ref a5, .int (nI ty), .int 0, .int (nI at_), .int (zb bF), .int val, .ref a6, .int (nI tl), .int (zb bC)]))], [(a0, .inl (g.2.1 0, 89, .inl (m_cons f q u v)))], [(a2, .inl (g.2.1 0, 534, .inl (m_save f k pa)))]]) := by
  refine zWR.start (by decide) (Nat.le_of_ble_eq_true rfl) ?_
  intro zp ze s zm zbl zmt zc ls A X hr hlocks hinn hl hAe hW hS hA hA0
  have hx := X.1
  have hb := X.2.1
  have hml := X.2.2.1
  have hown := X.2.2.2.1
  have hls := hl.1
  have hl : lv_has ls 6 [(0, .ref x), (1, .int (nI q)), (2, .int u), (3, .int v)] := hl
  refine lv_aload_n hx hb dX9_consent_0 rfl (lv_at hl 0 rfl) ?_
  refine lv_iconst (v := 0) hx hb dX9_consent_1 rfl ?_
  refine z_put X hW hS 0 0 rfl rfl zP_RX9_32_12 rfl rfl (Nat.le_of_ble_eq_true rfl) dX9_consent_2 (fun H locs hW hS => ?_)
  have hW : zW g A ([[(x, .inr (12, [.ref a0, .ref a1, .ref a2, .int (nI k), .ref a3, .ref a4, .ref a5, .int (nI ty), .int 0, .int (nI at_), .int (zb bF), .int val, .ref a6, .int (nI tl), .int (zb bC)]))], [(a0, .inl (g.2.1 0, 89, .inl f))], [(a2, .inl (g.2.1 0, 534, .inl pa))]] : List va_W) H := hW
  refine lv_iload_n hx hb dX9_consent_5 rfl (lv_at hl 1 rfl) ?_
  refine zc_ro (zr_S (As := [.int (nI q)]) (rest := []) X (m_X9_isMeadow l g (nI q)) zL_RX9_129 trivial hS hA0 hls rfl (Nat.le_of_ble_eq_true rfl) ⟨rfl, rfl, Nat.le_of_ble_eq_true rfl, Nat.le_of_ble_eq_true rfl, (Nat.le_of_ble_eq_true rfl), (Nat.le_of_ble_eq_true rfl)⟩ dX9_consent_6) ?_
  refine zb_ifeq (tgt := 34) hx hb dX9_consent_9 (by decide) (fun c9_0 => ?_) (fun c9_0 => ?_)
  · exact absurd ((m_in_T (a := 0) (b := 4) rfl rfl rfl (by omega) (by omega) (by decide)).symm.trans c9_0) (by decide)
  · skip
    refine lv_iload_n hx hb dX9_consent_12 rfl (lv_at hl 2 rfl) ?_
    refine lv_iconst (v := 0) hx hb dX9_consent_13 rfl ?_
    refine lv_sipush (v := 9999) hx hb dX9_consent_14 (by decide) ?_
    refine zc_ro (zr_S (As := [.int u, .int 0, .int 9999]) (rest := []) X (m_X9_in l g u 0 9999) zL_RX9_36 trivial hS hA0 hls rfl (Nat.le_of_ble_eq_true rfl) ⟨rfl, rfl, Nat.le_of_ble_eq_true rfl, Nat.le_of_ble_eq_true rfl, (Nat.le_of_ble_eq_true rfl), (Nat.le_of_ble_eq_true rfl)⟩ dX9_consent_17) ?_
    refine zb_ifeq (tgt := 34) hx hb dX9_consent_20 (by decide) (fun c20_1 => ?_) (fun c20_1 => ?_)
    · exact absurd (hu.symm.trans c20_1) (by decide)
    · skip
      refine lv_iload_n hx hb dX9_consent_23 rfl (lv_at hl 3 rfl) ?_
      refine lv_iconst (v := 0) hx hb dX9_consent_24 rfl ?_
      refine lv_sipush (v := 9999) hx hb dX9_consent_25 (by decide) ?_
      refine zc_ro (zr_S (As := [.int v, .int 0, .int 9999]) (rest := []) X (m_X9_in l g v 0 9999) zL_RX9_36 trivial hS hA0 hls rfl (Nat.le_of_ble_eq_true rfl) ⟨rfl, rfl, Nat.le_of_ble_eq_true rfl, Nat.le_of_ble_eq_true rfl, (Nat.le_of_ble_eq_true rfl), (Nat.le_of_ble_eq_true rfl)⟩ dX9_consent_28) ?_
      refine zb_ifne (tgt := 40) hx hb dX9_consent_31 (by decide) (fun c31_2 => ?_) (fun c31_2 => ?_)
      · skip
        refine lv_aload_n hx hb dX9_consent_40 rfl (lv_at hl 0 rfl) ?_
        refine zc_wr (gc := [[(x, .inr (12, [.ref a0, .ref a1, .ref a2, .int (nI k), .ref a3, .ref a4, .ref a5, .int (nI ty), .int 0, .int (nI at_), .int (zb bF), .int val, .ref a6, .int (nI tl), .int (zb bC)]))], [(a0, .inl (g.2.1 0, 89, .inl f))], [(a2, .inl (g.2.1 0, 534, .inl pa))]]) (gr := []) (zr_V (As := []) (rest := []) X (m_X9_saves l g x a0 a1 a2 a3 a4 a5 a6 k ty at_ tl 0 val bF bC f pa hk _) zL_RX9_51 (ci := 12) rfl (hW.H.at 0 0 rfl rfl) (zW.pre (gc := [[(x, .inr (12, [.ref a0, .ref a1, .ref a2, .int (nI k), .ref a3, .ref a4, .ref a5, .int (nI ty), .int 0, .int (nI at_), .int (zb bF), .int val, .ref a6, .int (nI tl), .int (zb bC)]))], [(a0, .inl (g.2.1 0, 89, .inl f))], [(a2, .inl (g.2.1 0, 534, .inl pa))]]) (gr := []) hW hA0) hS hA0 hls rfl (Nat.le_of_ble_eq_true rfl) ⟨rfl, rfl, Nat.le_of_ble_eq_true rfl, Nat.le_of_ble_eq_true rfl, (Nat.le_of_ble_eq_true rfl), (Nat.le_of_ble_eq_true rfl)⟩ dX9_consent_41) hW hS hA (fun v gc' H locs hpost hW hS => ?_)
        obtain ⟨rfl, rfl⟩ := hpost
        have hW : zW g A ([[(x, .inr (12, [.ref a0, .ref a1, .ref a2, .int (nI (m_sk k + 1)), .ref a3, .ref a4, .ref a5, .int (nI ty), .int 0, .int (nI at_), .int (zb bF), .int val, .ref a6, .int (nI tl), .int (zb bC)]))], [(a0, .inl (g.2.1 0, 89, .inl f))], [(a2, .inl (g.2.1 0, 534, .inl (m_save f k pa)))]] : List va_W) H := hW
        refine W.eq (g2 := F0 zm 44 ls []) rfl ?_
        have hj92 : ∀  (c : Nat → Int32) (hc : c = m_cons f q u v) (H : Heap) (locs : List Loc), zW g A ([[(x, .inr (12, [.ref a0, .ref a1, .ref a2, .int (nI (m_sk k + 1)), .ref a3, .ref a4, .ref a5, .int (nI ty), .int 0, .int (nI at_), .int (zb bF), .int val, .ref a6, .int (nI tl), .int (zb bC)]))], [(a0, .inl (g.2.1 0, 89, .inl c))], [(a2, .inl (g.2.1 0, 534, .inl (m_save f k pa)))]] : List va_W) H → va_S A s.heap H locs → ∀ (ls : Array Slot), lv_has ls 6 [(0, .ref x)] → W zp l ze rm_X9_consent_ok s zm ([.ref x, .int (nI q), .int u, .int v] : List Value).toArray zbl zmt zc H locs 0 0 (MQ zbl (zQW g ([[(x, .inr (12, [.ref a0, .ref a1, .ref a2, .int (nI k), .ref a3, .ref a4, .ref a5, .int (nI ty), .int thr, .int (nI at_), .int (zb bF), .int val, .ref a6, .int (nI tl), .int (zb bC)]))], [(a0, .inl (g.2.1 0, 89, .inl f))], [(a2, .inl (g.2.1 0, 534, .inl pa))]] : List va_W) (fun zv gs' => zv = some (.int (m_runsL (m_cons f q u v) 5)) ∧ gs' = [[(x, .inr (12, [.ref a0, .ref a1, .ref a2, .int (nI (m_sk k + 1)), .ref a3, .ref a4, .ref a5, .int (nI ty), .int 0, .int (nI at_), .int (zb bF), .int val, .ref a6, .int (nI tl), .int (zb bC)]))], [(a0, .inl (g.2.1 0, 89, .inl (m_cons f q u v)))], [(a2, .inl (g.2.1 0, 534, .inl (m_save f k pa)))]])) ([.ref x, .int (nI q), .int u, .int v] : List Value).toArray s 0 0 A) (F0 zm 92 ls []) := by
          intro c hc H locs hW hS ls hl
          have hls := hl.1
          refine lv_iconst (v := 0) hx hb dX9_consent_92 rfl ?_
          refine lv_istore (lv' := [(4, .int 0), (0, .ref x)]) hx hb dX9_consent_93 hl (by decide) rfl (fun ls hl => ?_)
          have hls := hl.1
          refine lv_iconst (v := 0) hx hb dX9_consent_95 rfl ?_
          refine lv_istore (lv' := [(5, .int 0), (4, .int 0), (0, .ref x)]) hx hb dX9_consent_96 hl (by decide) rfl (fun ls hl => ?_)
          have hls := hl.1
          have hj98 : ∀ (zn j : Nat) (h_le : j ≤ 5) (h_fu : 5 < j + zn) (sm : Int32) (hsm : sm = m_runsL c j) (H : Heap) (locs : List Loc), zW g A ([[(x, .inr (12, [.ref a0, .ref a1, .ref a2, .int (nI (m_sk k + 1)), .ref a3, .ref a4, .ref a5, .int (nI ty), .int 0, .int (nI at_), .int (zb bF), .int val, .ref a6, .int (nI tl), .int (zb bC)]))], [(a0, .inl (g.2.1 0, 89, .inl c))], [(a2, .inl (g.2.1 0, 534, .inl (m_save f k pa)))]] : List va_W) H → va_S A s.heap H locs → ∀ (ls : Array Slot), lv_has ls 6 [(0, .ref x), (4, .int sm), (5, .int (nI j))] → W zp l ze rm_X9_consent_ok s zm ([.ref x, .int (nI q), .int u, .int v] : List Value).toArray zbl zmt zc H locs 0 0 (MQ zbl (zQW g ([[(x, .inr (12, [.ref a0, .ref a1, .ref a2, .int (nI k), .ref a3, .ref a4, .ref a5, .int (nI ty), .int thr, .int (nI at_), .int (zb bF), .int val, .ref a6, .int (nI tl), .int (zb bC)]))], [(a0, .inl (g.2.1 0, 89, .inl f))], [(a2, .inl (g.2.1 0, 534, .inl pa))]] : List va_W) (fun zv gs' => zv = some (.int (m_runsL (m_cons f q u v) 5)) ∧ gs' = [[(x, .inr (12, [.ref a0, .ref a1, .ref a2, .int (nI (m_sk k + 1)), .ref a3, .ref a4, .ref a5, .int (nI ty), .int 0, .int (nI at_), .int (zb bF), .int val, .ref a6, .int (nI tl), .int (zb bC)]))], [(a0, .inl (g.2.1 0, 89, .inl (m_cons f q u v)))], [(a2, .inl (g.2.1 0, 534, .inl (m_save f k pa)))]])) ([.ref x, .int (nI q), .int u, .int v] : List Value).toArray s 0 0 A) (F0 zm 98 ls []) := by
            intro zn
            induction zn with
            | zero => intro j h_le h_fu; exact absurd h_fu (by omega)
            | succ zn ih98 =>
              intro j h_le h_fu sm hsm H locs hW hS ls hl
              have hls := hl.1
              refine lv_iload hx hb dX9_consent_98 (lv_at hl 2 rfl) ?_
              refine lv_iconst (v := 5) hx hb dX9_consent_100 rfl ?_
              refine lv_icmp_ge (tgt := 132) hx hb dX9_consent_101 (by decide) (fun c101_3 => ?_) (fun c101_3 => ?_)
              · skip
                have kc101_3 := (zn_le (a := 5) (b := j) rfl rfl (by omega) (by omega)).mp c101_3
                refine lv_iload hx hb dX9_consent_132 (lv_at hl 1 rfl) ?_
                refine zWR.iret X hAe hW hS hr hlocks ?_ (Nat.le_of_ble_eq_true rfl) (Nat.le_of_ble_eq_true rfl) dX9_consent_134
                have hj : j = 5 := by omega
                subst hj
                subst hc
                subst hsm
                exact ⟨rfl, rfl⟩
              · skip
                have kc101_3 := mt (zn_le (a := 5) (b := j) rfl rfl (by omega) (by omega)).mpr c101_3
                refine lv_iload hx hb dX9_consent_104 (lv_at hl 1 rfl) ?_
                refine lv_aload_n hx hb dX9_consent_106 rfl (lv_at hl 0 rfl) ?_
                refine z_get X (hW.H.at 0 0 rfl rfl) zF_RX9_7_12 rfl dX9_consent_107 ?_
                refine lv_iload hx hb dX9_consent_110 (lv_at hl 2 rfl) ?_
                refine zc_ro (zr_S (As := [.ref a0, .int (nI j)]) (rest := [.int sm]) X (m_X9_runs l g a0 c j (by omega)) zL_RX9_61 (zH.cons (va_P.one (hW.H.at 1 0 rfl rfl)) zH.nil) hS hA0 hls rfl (Nat.le_of_ble_eq_true rfl) ⟨rfl, rfl, Nat.le_of_ble_eq_true rfl, Nat.le_of_ble_eq_true rfl, (Nat.le_of_ble_eq_true rfl), (Nat.le_of_ble_eq_true rfl)⟩ dX9_consent_112) ?_
                refine zb_ifeq (tgt := 122) hx hb dX9_consent_115 (by decide) (fun c115_4 => ?_) (fun c115_4 => ?_)
                · skip
                  refine lv_iconst (v := 0) hx hb dX9_consent_122 rfl ?_
                  refine lv_iadd hx hb dX9_consent_123 ?_
                  refine lv_istore (lv' := [(4, .int (sm + 0)), (0, .ref x), (5, .int (nI j))]) hx hb dX9_consent_124 hl (by decide) rfl (fun ls hl => ?_)
                  have hls := hl.1
                  refine lv_iinc (v := nI (j + 1)) (lv' := [(5, .int (nI (j + 1))), (4, .int (sm + 0)), (0, .ref x)]) hx hb dX9_consent_126 hl (k := 2) rfl (zx_add rfl rfl) (by decide) rfl (fun ls hl => ?_)
                  have hls := hl.1
                  refine lv_goto (tgt := 98) hx hb dX9_consent_129 (by decide) ?_
                  exact ih98 (j + 1) (by omega) (by omega) _ (by simp [m_runsL, ← hsm, c101_3, c115_4]) _ _ hW hS _ (lv_sub hl [2, 1, 0] rfl)
                · skip
                  refine lv_iconst (v := 1) hx hb dX9_consent_118 rfl ?_
                  refine lv_goto (tgt := 123) hx hb dX9_consent_119 (by decide) ?_
                  refine lv_iadd hx hb dX9_consent_123 ?_
                  refine lv_istore (lv' := [(4, .int (sm + 1)), (0, .ref x), (5, .int (nI j))]) hx hb dX9_consent_124 hl (by decide) rfl (fun ls hl => ?_)
                  have hls := hl.1
                  refine lv_iinc (v := nI (j + 1)) (lv' := [(5, .int (nI (j + 1))), (4, .int (sm + 1)), (0, .ref x)]) hx hb dX9_consent_126 hl (k := 2) rfl (zx_add rfl rfl) (by decide) rfl (fun ls hl => ?_)
                  have hls := hl.1
                  refine lv_goto (tgt := 98) hx hb dX9_consent_129 (by decide) ?_
                  exact ih98 (j + 1) (by omega) (by omega) _ (by simp [m_runsL, ← hsm, c101_3, c115_4]) _ _ hW hS _ (lv_sub hl [2, 1, 0] rfl)
          exact hj98 (5 + 1) (0) (by omega) (by omega) _ rfl _ _ hW hS _ (lv_sub hl [2, 1, 0] rfl)
        refine lv_aload_n hx hb dX9_consent_44 rfl (lv_at hl 0 rfl) ?_
        refine z_get X (hW.H.at 0 0 rfl rfl) zF_RX9_7_12 rfl dX9_consent_45 ?_
        refine lv_bipush (v := 54) hx hb dX9_consent_48 (by decide) ?_
        refine lv_bipush (v := 7) hx hb dX9_consent_50 (by decide) ?_
        refine lv_iload_n hx hb dX9_consent_52 rfl (lv_at hl 1 rfl) ?_
        refine lv_imul hx hb dX9_consent_53 ?_
        refine lv_iadd hx hb dX9_consent_54 ?_
        refine lv_iconst (v := 3) hx hb dX9_consent_55 rfl ?_
        refine lv_iadd hx hb dX9_consent_56 ?_
        refine lv_iload_n hx hb dX9_consent_57 rfl (lv_at hl 3 rfl) ?_
        refine lv_iload_n hx hb dX9_consent_58 rfl (lv_at hl 2 rfl) ?_
        refine lv_icmp_ge (tgt := 66) hx hb dX9_consent_59 (by decide) (fun c59_5 => ?_) (fun c59_5 => ?_)
        · skip
          refine lv_iload_n hx hb dX9_consent_66 rfl (lv_at hl 2 rfl) ?_
          refine z_iast X (j := (54 + (7 * q)) + 3) hW hS 1 0 rfl rfl (zx_add (zx_add rfl (zx_mul rfl rfl)) rfl) (by omega) (by decide) dX9_consent_67 (fun H locs hW hS => ?_)
          have hW : zW g A ([[(x, .inr (12, [.ref a0, .ref a1, .ref a2, .int (nI (m_sk k + 1)), .ref a3, .ref a4, .ref a5, .int (nI ty), .int 0, .int (nI at_), .int (zb bF), .int val, .ref a6, .int (nI tl), .int (zb bC)]))], [(a0, .inl (g.2.1 0, 89, .inl (upd f ((54 + (7 * q)) + 3) u)))], [(a2, .inl (g.2.1 0, 534, .inl (m_save f k pa)))]] : List va_W) H := hW
          refine lv_aload_n hx hb dX9_consent_68 rfl (lv_at hl 0 rfl) ?_
          refine z_get X (hW.H.at 0 0 rfl rfl) zF_RX9_7_12 rfl dX9_consent_69 ?_
          refine lv_bipush (v := 54) hx hb dX9_consent_72 (by decide) ?_
          refine lv_bipush (v := 7) hx hb dX9_consent_74 (by decide) ?_
          refine lv_iload_n hx hb dX9_consent_76 rfl (lv_at hl 1 rfl) ?_
          refine lv_imul hx hb dX9_consent_77 ?_
          refine lv_iadd hx hb dX9_consent_78 ?_
          refine lv_iconst (v := 4) hx hb dX9_consent_79 rfl ?_
          refine lv_iadd hx hb dX9_consent_80 ?_
          refine lv_iload_n hx hb dX9_consent_81 rfl (lv_at hl 3 rfl) ?_
          refine lv_iload_n hx hb dX9_consent_82 rfl (lv_at hl 2 rfl) ?_
          refine lv_icmp_ge (tgt := 90) hx hb dX9_consent_83 (by decide) (fun c83_6 => ?_) (fun c83_6 => ?_)
          · skip
            refine lv_iload_n hx hb dX9_consent_90 rfl (lv_at hl 3 rfl) ?_
            refine z_iast X (j := (54 + (7 * q)) + 4) hW hS 1 0 rfl rfl (zx_add (zx_add rfl (zx_mul rfl rfl)) rfl) (by omega) (by decide) dX9_consent_91 (fun H locs hW hS => ?_)
            have hW : zW g A ([[(x, .inr (12, [.ref a0, .ref a1, .ref a2, .int (nI (m_sk k + 1)), .ref a3, .ref a4, .ref a5, .int (nI ty), .int 0, .int (nI at_), .int (zb bF), .int val, .ref a6, .int (nI tl), .int (zb bC)]))], [(a0, .inl (g.2.1 0, 89, .inl (upd (upd f ((54 + (7 * q)) + 3) u) ((54 + (7 * q)) + 4) v)))], [(a2, .inl (g.2.1 0, 534, .inl (m_save f k pa)))]] : List va_W) H := hW
            exact hj92 _ (by simp only [m_cons, c9_0, c20_1, c31_2, if_pos c59_5, if_pos c83_6]) _ _ hW hS _ (lv_sub hl [0] rfl)
          · exact absurd c59_5 c83_6
        · skip
          refine lv_iconst (v := (-1)) hx hb dX9_consent_62 rfl ?_
          refine lv_goto (tgt := 67) hx hb dX9_consent_63 (by decide) ?_
          refine z_iast X (j := (54 + (7 * q)) + 3) hW hS 1 0 rfl rfl (zx_add (zx_add rfl (zx_mul rfl rfl)) rfl) (by omega) (by decide) dX9_consent_67 (fun H locs hW hS => ?_)
          have hW : zW g A ([[(x, .inr (12, [.ref a0, .ref a1, .ref a2, .int (nI (m_sk k + 1)), .ref a3, .ref a4, .ref a5, .int (nI ty), .int 0, .int (nI at_), .int (zb bF), .int val, .ref a6, .int (nI tl), .int (zb bC)]))], [(a0, .inl (g.2.1 0, 89, .inl (upd f ((54 + (7 * q)) + 3) (-1))))], [(a2, .inl (g.2.1 0, 534, .inl (m_save f k pa)))]] : List va_W) H := hW
          refine lv_aload_n hx hb dX9_consent_68 rfl (lv_at hl 0 rfl) ?_
          refine z_get X (hW.H.at 0 0 rfl rfl) zF_RX9_7_12 rfl dX9_consent_69 ?_
          refine lv_bipush (v := 54) hx hb dX9_consent_72 (by decide) ?_
          refine lv_bipush (v := 7) hx hb dX9_consent_74 (by decide) ?_
          refine lv_iload_n hx hb dX9_consent_76 rfl (lv_at hl 1 rfl) ?_
          refine lv_imul hx hb dX9_consent_77 ?_
          refine lv_iadd hx hb dX9_consent_78 ?_
          refine lv_iconst (v := 4) hx hb dX9_consent_79 rfl ?_
          refine lv_iadd hx hb dX9_consent_80 ?_
          refine lv_iload_n hx hb dX9_consent_81 rfl (lv_at hl 3 rfl) ?_
          refine lv_iload_n hx hb dX9_consent_82 rfl (lv_at hl 2 rfl) ?_
          refine lv_icmp_ge (tgt := 90) hx hb dX9_consent_83 (by decide) (fun c83_7 => ?_) (fun c83_7 => ?_)
          · exact absurd c83_7 c59_5
          · skip
            refine lv_iconst (v := (-1)) hx hb dX9_consent_86 rfl ?_
            refine lv_goto (tgt := 91) hx hb dX9_consent_87 (by decide) ?_
            refine z_iast X (j := (54 + (7 * q)) + 4) hW hS 1 0 rfl rfl (zx_add (zx_add rfl (zx_mul rfl rfl)) rfl) (by omega) (by decide) dX9_consent_91 (fun H locs hW hS => ?_)
            have hW : zW g A ([[(x, .inr (12, [.ref a0, .ref a1, .ref a2, .int (nI (m_sk k + 1)), .ref a3, .ref a4, .ref a5, .int (nI ty), .int 0, .int (nI at_), .int (zb bF), .int val, .ref a6, .int (nI tl), .int (zb bC)]))], [(a0, .inl (g.2.1 0, 89, .inl (upd (upd f ((54 + (7 * q)) + 3) (-1)) ((54 + (7 * q)) + 4) (-1))))], [(a2, .inl (g.2.1 0, 534, .inl (m_save f k pa)))]] : List va_W) H := hW
            exact hj92 _ (by simp only [m_cons, c9_0, c20_1, c31_2, if_neg c59_5, if_neg c83_7]) _ _ hW hS _ (lv_sub hl [0] rfl)
      · exact absurd (hv.symm.trans c31_2) (by decide)

abbrev rm_X9_pass_bad1 : Room := { frames := 1, cells := 0, slots := 0, locals := 22 }
set_option maxHeartbeats 4000000 in
set_option maxRecDepth 100000 in
theorem m_X9_pass_bad1 (l : Launch) (g : zG) (x a0 a1 a2 a3 a4 a5 a6 : Nat) (k ty at_ tl : Nat) (thr val : Int32) (bF bC : Bool) (q : Int32) (hbad : m_in q 1 60 = false) (sz : Nat) : zWR l yX9_pass cX9_pass 3 (Option.some Jvm.ClassFile.FieldType.int) rm_X9_pass_bad1 g [.ref x, .int q] ([[(x, .inr (12, [.ref a0, .ref a1, .ref a2, .int (nI k), .ref a3, .ref a4, .ref a5, .int (nI ty), .int thr, .int (nI at_), .int (zb bF), .int val, .ref a6, .int (nI tl), .int (zb bC)]))]] : List va_W) 0 0 sz (fun zv gs' => zv = some (.int (0)) ∧ gs' = [[(x, .inr (12, [.ref a0, .ref a1, .ref a2, .int (nI k), .ref a3, .ref a4, .ref a5, .int (nI ty), .int 1, .int (nI at_), .int (zb bF), .int val, .ref a6, .int (nI tl), .int (zb bC)]))]]) := by
  refine zWR.start (by decide) (Nat.le_of_ble_eq_true rfl) ?_
  intro zp ze s zm zbl zmt zc ls A X hr hlocks hinn hl hAe hW hS hA hA0
  have hx := X.1
  have hb := X.2.1
  have hml := X.2.2.1
  have hown := X.2.2.2.1
  have hls := hl.1
  have hl : lv_has ls 3 [(0, .ref x), (1, .int q)] := hl
  refine lv_aload_n hx hb dX9_pass_0 rfl (lv_at hl 0 rfl) ?_
  refine lv_iconst (v := 0) hx hb dX9_pass_1 rfl ?_
  refine z_put X hW hS 0 0 rfl rfl zP_RX9_32_12 rfl rfl (Nat.le_of_ble_eq_true rfl) dX9_pass_2 (fun H locs hW hS => ?_)
  have hW : zW g A ([[(x, .inr (12, [.ref a0, .ref a1, .ref a2, .int (nI k), .ref a3, .ref a4, .ref a5, .int (nI ty), .int 0, .int (nI at_), .int (zb bF), .int val, .ref a6, .int (nI tl), .int (zb bC)]))]] : List va_W) H := hW
  refine lv_iload_n hx hb dX9_pass_5 rfl (lv_at hl 1 rfl) ?_
  refine lv_iconst (v := 1) hx hb dX9_pass_6 rfl ?_
  refine lv_bipush (v := 60) hx hb dX9_pass_7 (by decide) ?_
  refine zc_ro (zr_S (As := [.int q, .int 1, .int 60]) (rest := []) X (m_X9_in l g q 1 60) zL_RX9_36 trivial hS hA0 hls rfl (Nat.le_of_ble_eq_true rfl) ⟨rfl, rfl, Nat.le_of_ble_eq_true rfl, Nat.le_of_ble_eq_true rfl, (Nat.le_of_ble_eq_true rfl), (Nat.le_of_ble_eq_true rfl)⟩ dX9_pass_9) ?_
  refine zb_ifne (tgt := 21) hx hb dX9_pass_12 (by decide) (fun c12_0 => ?_) (fun c12_0 => ?_)
  · exact absurd (hbad.symm.trans c12_0) (by decide)
  · skip
    refine lv_aload_n hx hb dX9_pass_15 rfl (lv_at hl 0 rfl) ?_
    refine lv_iconst (v := 1) hx hb dX9_pass_16 rfl ?_
    refine zc_wr (gc := [[(x, .inr (12, [.ref a0, .ref a1, .ref a2, .int (nI k), .ref a3, .ref a4, .ref a5, .int (nI ty), .int 0, .int (nI at_), .int (zb bF), .int val, .ref a6, .int (nI tl), .int (zb bC)]))]]) (gr := []) (zr_V (As := [.int 1]) (rest := []) X (m_X9_fails l g x a0 a1 a2 a3 a4 a5 a6 k ty at_ tl 0 val bF bC 1 _) zL_RX9_47 (ci := 12) rfl (hW.H.at 0 0 rfl rfl) (zW.pre (gc := [[(x, .inr (12, [.ref a0, .ref a1, .ref a2, .int (nI k), .ref a3, .ref a4, .ref a5, .int (nI ty), .int 0, .int (nI at_), .int (zb bF), .int val, .ref a6, .int (nI tl), .int (zb bC)]))]]) (gr := []) hW hA0) hS hA0 hls rfl (Nat.le_of_ble_eq_true rfl) ⟨rfl, rfl, Nat.le_of_ble_eq_true rfl, Nat.le_of_ble_eq_true rfl, (Nat.le_of_ble_eq_true rfl), (Nat.le_of_ble_eq_true rfl)⟩ dX9_pass_17) hW hS hA (fun v gc' H locs hpost hW hS => ?_)
    obtain ⟨rfl, rfl⟩ := hpost
    have hW : zW g A ([[(x, .inr (12, [.ref a0, .ref a1, .ref a2, .int (nI k), .ref a3, .ref a4, .ref a5, .int (nI ty), .int 1, .int (nI at_), .int (zb bF), .int val, .ref a6, .int (nI tl), .int (zb bC)]))]] : List va_W) H := hW
    refine W.eq (g2 := F0 zm 20 ls [.int 0]) rfl ?_
    refine zWR.iret X hAe hW hS hr hlocks ?_ (Nat.le_of_ble_eq_true rfl) (Nat.le_of_ble_eq_true rfl) dX9_pass_20
    exact ⟨rfl, rfl⟩

abbrev rm_X9_pass_bad2 : Room := { frames := 1, cells := 0, slots := 0, locals := 22 }
set_option maxHeartbeats 4000000 in
set_option maxRecDepth 100000 in
theorem m_X9_pass_bad2 (l : Launch) (g : zG) (x a0 a1 a2 a3 a4 a5 a6 : Nat) (k ty at_ tl : Nat) (thr val : Int32) (bF bC : Bool) (f : Nat → Int32) (q : Int32) (hq : m_in q 1 60 = true) (hbad : m_mayPass f q = false) (sz : Nat) : zWR l yX9_pass cX9_pass 3 (Option.some Jvm.ClassFile.FieldType.int) rm_X9_pass_bad2 g [.ref x, .int q] ([[(x, .inr (12, [.ref a0, .ref a1, .ref a2, .int (nI k), .ref a3, .ref a4, .ref a5, .int (nI ty), .int thr, .int (nI at_), .int (zb bF), .int val, .ref a6, .int (nI tl), .int (zb bC)]))], [(a0, .inl (g.2.1 0, 89, .inl f))]] : List va_W) 0 0 sz (fun zv gs' => zv = some (.int (0)) ∧ gs' = [[(x, .inr (12, [.ref a0, .ref a1, .ref a2, .int (nI k), .ref a3, .ref a4, .ref a5, .int (nI ty), .int 2, .int (nI at_), .int (zb bF), .int val, .ref a6, .int (nI tl), .int (zb bC)]))], [(a0, .inl (g.2.1 0, 89, .inl f))]]) := by
  refine zWR.start (by decide) (Nat.le_of_ble_eq_true rfl) ?_
  intro zp ze s zm zbl zmt zc ls A X hr hlocks hinn hl hAe hW hS hA hA0
  have hx := X.1
  have hb := X.2.1
  have hml := X.2.2.1
  have hown := X.2.2.2.1
  have hls := hl.1
  have hl : lv_has ls 3 [(0, .ref x), (1, .int q)] := hl
  refine lv_aload_n hx hb dX9_pass_0 rfl (lv_at hl 0 rfl) ?_
  refine lv_iconst (v := 0) hx hb dX9_pass_1 rfl ?_
  refine z_put X hW hS 0 0 rfl rfl zP_RX9_32_12 rfl rfl (Nat.le_of_ble_eq_true rfl) dX9_pass_2 (fun H locs hW hS => ?_)
  have hW : zW g A ([[(x, .inr (12, [.ref a0, .ref a1, .ref a2, .int (nI k), .ref a3, .ref a4, .ref a5, .int (nI ty), .int 0, .int (nI at_), .int (zb bF), .int val, .ref a6, .int (nI tl), .int (zb bC)]))], [(a0, .inl (g.2.1 0, 89, .inl f))]] : List va_W) H := hW
  refine lv_iload_n hx hb dX9_pass_5 rfl (lv_at hl 1 rfl) ?_
  refine lv_iconst (v := 1) hx hb dX9_pass_6 rfl ?_
  refine lv_bipush (v := 60) hx hb dX9_pass_7 (by decide) ?_
  refine zc_ro (zr_S (As := [.int q, .int 1, .int 60]) (rest := []) X (m_X9_in l g q 1 60) zL_RX9_36 trivial hS hA0 hls rfl (Nat.le_of_ble_eq_true rfl) ⟨rfl, rfl, Nat.le_of_ble_eq_true rfl, Nat.le_of_ble_eq_true rfl, (Nat.le_of_ble_eq_true rfl), (Nat.le_of_ble_eq_true rfl)⟩ dX9_pass_9) ?_
  refine zb_ifne (tgt := 21) hx hb dX9_pass_12 (by decide) (fun c12_0 => ?_) (fun c12_0 => ?_)
  · skip
    refine lv_aload_n hx hb dX9_pass_21 rfl (lv_at hl 0 rfl) ?_
    refine lv_iload_n hx hb dX9_pass_22 rfl (lv_at hl 1 rfl) ?_
    refine zc_ro (zr_V (As := [.int q]) (rest := []) X (m_X9_mayPass l g x a0 a1 a2 a3 a4 a5 a6 k ty at_ tl 0 val bF bC f q) zL_RX9_138 (ci := 12) rfl (hW.H.at 0 0 rfl rfl) (zH.cons (va_P.one (hW.H.at 0 0 rfl rfl)) (zH.cons (va_P.one (hW.H.at 1 0 rfl rfl)) zH.nil)) hS hA0 hls rfl (Nat.le_of_ble_eq_true rfl) ⟨rfl, rfl, Nat.le_of_ble_eq_true rfl, Nat.le_of_ble_eq_true rfl, (Nat.le_of_ble_eq_true rfl), (Nat.le_of_ble_eq_true rfl)⟩ dX9_pass_23) ?_
    refine zb_ifne (tgt := 35) hx hb dX9_pass_26 (by decide) (fun c26_1 => ?_) (fun c26_1 => ?_)
    · exact absurd (hbad.symm.trans c26_1) (by decide)
    · skip
      refine lv_aload_n hx hb dX9_pass_29 rfl (lv_at hl 0 rfl) ?_
      refine lv_iconst (v := 2) hx hb dX9_pass_30 rfl ?_
      refine zc_wr (gc := [[(x, .inr (12, [.ref a0, .ref a1, .ref a2, .int (nI k), .ref a3, .ref a4, .ref a5, .int (nI ty), .int 0, .int (nI at_), .int (zb bF), .int val, .ref a6, .int (nI tl), .int (zb bC)]))]]) (gr := [[(a0, .inl (g.2.1 0, 89, .inl f))]]) (zr_V (As := [.int 2]) (rest := []) X (m_X9_fails l g x a0 a1 a2 a3 a4 a5 a6 k ty at_ tl 0 val bF bC 2 _) zL_RX9_47 (ci := 12) rfl (hW.H.at 0 0 rfl rfl) (zW.pre (gc := [[(x, .inr (12, [.ref a0, .ref a1, .ref a2, .int (nI k), .ref a3, .ref a4, .ref a5, .int (nI ty), .int 0, .int (nI at_), .int (zb bF), .int val, .ref a6, .int (nI tl), .int (zb bC)]))]]) (gr := [[(a0, .inl (g.2.1 0, 89, .inl f))]]) hW hA0) hS hA0 hls rfl (Nat.le_of_ble_eq_true rfl) ⟨rfl, rfl, Nat.le_of_ble_eq_true rfl, Nat.le_of_ble_eq_true rfl, (Nat.le_of_ble_eq_true rfl), (Nat.le_of_ble_eq_true rfl)⟩ dX9_pass_31) hW hS hA (fun v gc' H locs hpost hW hS => ?_)
      obtain ⟨rfl, rfl⟩ := hpost
      have hW : zW g A ([[(x, .inr (12, [.ref a0, .ref a1, .ref a2, .int (nI k), .ref a3, .ref a4, .ref a5, .int (nI ty), .int 2, .int (nI at_), .int (zb bF), .int val, .ref a6, .int (nI tl), .int (zb bC)]))], [(a0, .inl (g.2.1 0, 89, .inl f))]] : List va_W) H := hW
      refine W.eq (g2 := F0 zm 34 ls [.int 0]) rfl ?_
      refine zWR.iret X hAe hW hS hr hlocks ?_ (Nat.le_of_ble_eq_true rfl) (Nat.le_of_ble_eq_true rfl) dX9_pass_34
      exact ⟨rfl, rfl⟩
  · exact absurd (hq.symm.trans c12_0) (by decide)

abbrev rm_X9_pass_ok : Room := { frames := 7, cells := 0, slots := 0, locals := 160 }
set_option maxHeartbeats 4000000 in
set_option maxRecDepth 100000 in
theorem m_X9_pass_ok (l : Launch) (g : zG) (x a0 a1 a2 a3 a4 a5 a6 : Nat) (k ty at_ tl : Nat) (thr val : Int32) (bF bC : Bool) (f pa : Nat → Int32) (q n r : Nat) (hq1 : 1 ≤ q) (hq2 : q ≤ 60) (hmp : m_mayPass f (nI q) = true) (hk : k ≤ 6) (hn : n ≤ 4) (h6 : f 6 = nI n) (hr6 : r < 6) (h5 : f 5 = nI r) (hlays : ∀ j, j < q → m_layOk (m_days f n r j) n) (sz : Nat) : zWR l yX9_pass cX9_pass 3 (Option.some Jvm.ClassFile.FieldType.int) rm_X9_pass_ok g [.ref x, .int (nI q)] ([[(x, .inr (12, [.ref a0, .ref a1, .ref a2, .int (nI k), .ref a3, .ref a4, .ref a5, .int (nI ty), .int thr, .int (nI at_), .int (zb bF), .int val, .ref a6, .int (nI tl), .int (zb bC)]))], [(a0, .inl (g.2.1 0, 89, .inl f))], [(a2, .inl (g.2.1 0, 534, .inl pa))]] : List va_W) 0 0 sz (fun zv gs' => ∃ bc, zv = some (.int (m_sumM (m_days f n r q) 1 5 - m_sumM f 1 5)) ∧ gs' = [[(x, .inr (12, [.ref a0, .ref a1, .ref a2, .int (nI (m_sk k + 1)), .ref a3, .ref a4, .ref a5, .int (nI ty), .int 0, .int (nI at_), .int (zb bF), .int val, .ref a6, .int (nI tl), .int (zb bc)]))], [(a0, .inl (g.2.1 0, 89, .inl (m_days f n r q)))], [(a2, .inl (g.2.1 0, 534, .inl (m_save f k pa)))]]) := by
  refine zWR.start (by decide) (Nat.le_of_ble_eq_true rfl) ?_
  intro zp ze s zm zbl zmt zc ls A X hr hlocks hinn hl hAe hW hS hA hA0
  have hx := X.1
  have hb := X.2.1
  have hml := X.2.2.1
  have hown := X.2.2.2.1
  have hls := hl.1
  have hl : lv_has ls 3 [(0, .ref x), (1, .int (nI q))] := hl
  refine lv_aload_n hx hb dX9_pass_0 rfl (lv_at hl 0 rfl) ?_
  refine lv_iconst (v := 0) hx hb dX9_pass_1 rfl ?_
  refine z_put X hW hS 0 0 rfl rfl zP_RX9_32_12 rfl rfl (Nat.le_of_ble_eq_true rfl) dX9_pass_2 (fun H locs hW hS => ?_)
  have hW : zW g A ([[(x, .inr (12, [.ref a0, .ref a1, .ref a2, .int (nI k), .ref a3, .ref a4, .ref a5, .int (nI ty), .int 0, .int (nI at_), .int (zb bF), .int val, .ref a6, .int (nI tl), .int (zb bC)]))], [(a0, .inl (g.2.1 0, 89, .inl f))], [(a2, .inl (g.2.1 0, 534, .inl pa))]] : List va_W) H := hW
  refine lv_iload_n hx hb dX9_pass_5 rfl (lv_at hl 1 rfl) ?_
  refine lv_iconst (v := 1) hx hb dX9_pass_6 rfl ?_
  refine lv_bipush (v := 60) hx hb dX9_pass_7 (by decide) ?_
  refine zc_ro (zr_S (As := [.int (nI q), .int 1, .int 60]) (rest := []) X (m_X9_in l g (nI q) 1 60) zL_RX9_36 trivial hS hA0 hls rfl (Nat.le_of_ble_eq_true rfl) ⟨rfl, rfl, Nat.le_of_ble_eq_true rfl, Nat.le_of_ble_eq_true rfl, (Nat.le_of_ble_eq_true rfl), (Nat.le_of_ble_eq_true rfl)⟩ dX9_pass_9) ?_
  refine zb_ifne (tgt := 21) hx hb dX9_pass_12 (by decide) (fun c12_0 => ?_) (fun c12_0 => ?_)
  · skip
    refine lv_aload_n hx hb dX9_pass_21 rfl (lv_at hl 0 rfl) ?_
    refine lv_iload_n hx hb dX9_pass_22 rfl (lv_at hl 1 rfl) ?_
    refine zc_ro (zr_V (As := [.int (nI q)]) (rest := []) X (m_X9_mayPass l g x a0 a1 a2 a3 a4 a5 a6 k ty at_ tl 0 val bF bC f (nI q)) zL_RX9_138 (ci := 12) rfl (hW.H.at 0 0 rfl rfl) (zH.cons (va_P.one (hW.H.at 0 0 rfl rfl)) (zH.cons (va_P.one (hW.H.at 1 0 rfl rfl)) zH.nil)) hS hA0 hls rfl (Nat.le_of_ble_eq_true rfl) ⟨rfl, rfl, Nat.le_of_ble_eq_true rfl, Nat.le_of_ble_eq_true rfl, (Nat.le_of_ble_eq_true rfl), (Nat.le_of_ble_eq_true rfl)⟩ dX9_pass_23) ?_
    refine zb_ifne (tgt := 35) hx hb dX9_pass_26 (by decide) (fun c26_1 => ?_) (fun c26_1 => ?_)
    · skip
      refine lv_aload_n hx hb dX9_pass_35 rfl (lv_at hl 0 rfl) ?_
      refine zc_wr (gc := [[(x, .inr (12, [.ref a0, .ref a1, .ref a2, .int (nI k), .ref a3, .ref a4, .ref a5, .int (nI ty), .int 0, .int (nI at_), .int (zb bF), .int val, .ref a6, .int (nI tl), .int (zb bC)]))], [(a0, .inl (g.2.1 0, 89, .inl f))], [(a2, .inl (g.2.1 0, 534, .inl pa))]]) (gr := []) (zr_V (As := []) (rest := []) X (m_X9_saves l g x a0 a1 a2 a3 a4 a5 a6 k ty at_ tl 0 val bF bC f pa hk _) zL_RX9_51 (ci := 12) rfl (hW.H.at 0 0 rfl rfl) (zW.pre (gc := [[(x, .inr (12, [.ref a0, .ref a1, .ref a2, .int (nI k), .ref a3, .ref a4, .ref a5, .int (nI ty), .int 0, .int (nI at_), .int (zb bF), .int val, .ref a6, .int (nI tl), .int (zb bC)]))], [(a0, .inl (g.2.1 0, 89, .inl f))], [(a2, .inl (g.2.1 0, 534, .inl pa))]]) (gr := []) hW hA0) hS hA0 hls rfl (Nat.le_of_ble_eq_true rfl) ⟨rfl, rfl, Nat.le_of_ble_eq_true rfl, Nat.le_of_ble_eq_true rfl, (Nat.le_of_ble_eq_true rfl), (Nat.le_of_ble_eq_true rfl)⟩ dX9_pass_36) hW hS hA (fun v gc' H locs hpost hW hS => ?_)
      obtain ⟨rfl, rfl⟩ := hpost
      have hW : zW g A ([[(x, .inr (12, [.ref a0, .ref a1, .ref a2, .int (nI (m_sk k + 1)), .ref a3, .ref a4, .ref a5, .int (nI ty), .int 0, .int (nI at_), .int (zb bF), .int val, .ref a6, .int (nI tl), .int (zb bC)]))], [(a0, .inl (g.2.1 0, 89, .inl f))], [(a2, .inl (g.2.1 0, 534, .inl (m_save f k pa)))]] : List va_W) H := hW
      refine W.eq (g2 := F0 zm 39 ls []) rfl ?_
      refine lv_aload_n hx hb dX9_pass_39 rfl (lv_at hl 0 rfl) ?_
      refine z_get X (hW.H.at 0 0 rfl rfl) zF_RX9_7_12 rfl dX9_pass_40 ?_
      refine zc_ro (zr_S (As := [.ref a0]) (rest := []) X (m_X9_onMeadows l g a0 f) zL_RX9_141 (zH.cons (va_P.one (hW.H.at 1 0 rfl rfl)) zH.nil) hS hA0 hls rfl (Nat.le_of_ble_eq_true rfl) ⟨rfl, rfl, Nat.le_of_ble_eq_true rfl, Nat.le_of_ble_eq_true rfl, (Nat.le_of_ble_eq_true rfl), (Nat.le_of_ble_eq_true rfl)⟩ dX9_pass_43) ?_
      refine lv_istore_n (lv' := [(2, .int (m_sumM f 1 5)), (0, .ref x), (1, .int (nI q))]) hx hb dX9_pass_46 rfl hl (by decide) rfl (fun ls hl => ?_)
      have hls := hl.1
      refine lv_aload_n hx hb dX9_pass_47 rfl (lv_at hl 1 rfl) ?_
      refine lv_aload_n hx hb dX9_pass_48 rfl (lv_at hl 1 rfl) ?_
      refine z_get X (hW.H.at 0 0 rfl rfl) zF_RX9_7_12 rfl dX9_pass_49 ?_
      refine lv_iload_n hx hb dX9_pass_52 rfl (lv_at hl 2 rfl) ?_
      refine zc_wr (gc := [[(x, .inr (12, [.ref a0, .ref a1, .ref a2, .int (nI (m_sk k + 1)), .ref a3, .ref a4, .ref a5, .int (nI ty), .int 0, .int (nI at_), .int (zb bF), .int val, .ref a6, .int (nI tl), .int (zb bC)]))], [(a0, .inl (g.2.1 0, 89, .inl f))]]) (gr := [[(a2, .inl (g.2.1 0, 534, .inl (m_save f k pa)))]]) (zr_V (As := [.ref a0, .int (nI q)]) (rest := []) X (m_X9_days l g x a0 a1 a2 a3 a4 a5 a6 (m_sk k + 1) ty at_ tl 0 val bF bC a0 f q n r (by omega) (by omega) (by first | exact h6c | exact h6 | (simp (disch := omega) only [upd_n]; first | exact h6c | exact h6)) (by omega) (by first | exact h5c | exact h5 | (simp (disch := omega) only [upd_n]; first | exact h5c | exact h5)) hlays _) zL_RX9_144 (ci := 12) rfl (hW.H.at 0 0 rfl rfl) (zW.pre (gc := [[(x, .inr (12, [.ref a0, .ref a1, .ref a2, .int (nI (m_sk k + 1)), .ref a3, .ref a4, .ref a5, .int (nI ty), .int 0, .int (nI at_), .int (zb bF), .int val, .ref a6, .int (nI tl), .int (zb bC)]))], [(a0, .inl (g.2.1 0, 89, .inl f))]]) (gr := [[(a2, .inl (g.2.1 0, 534, .inl (m_save f k pa)))]]) hW hA0) hS hA0 hls rfl (Nat.le_of_ble_eq_true rfl) ⟨rfl, rfl, Nat.le_of_ble_eq_true rfl, Nat.le_of_ble_eq_true rfl, (Nat.le_of_ble_eq_true rfl), (Nat.le_of_ble_eq_true rfl)⟩ dX9_pass_53) hW hS hA (fun v gc' H locs hpost hW hS => ?_)
      obtain ⟨bc, rfl, rfl⟩ := hpost
      have hW : zW g A ([[(x, .inr (12, [.ref a0, .ref a1, .ref a2, .int (nI (m_sk k + 1)), .ref a3, .ref a4, .ref a5, .int (nI ty), .int 0, .int (nI at_), .int (zb bF), .int val, .ref a6, .int (nI tl), .int (zb bc)]))], [(a0, .inl (g.2.1 0, 89, .inl (m_days f n r q)))], [(a2, .inl (g.2.1 0, 534, .inl (m_save f k pa)))]] : List va_W) H := hW
      refine W.eq (g2 := F0 zm 56 ls []) rfl ?_
      refine lv_aload_n hx hb dX9_pass_56 rfl (lv_at hl 1 rfl) ?_
      refine z_get X (hW.H.at 0 0 rfl rfl) zF_RX9_7_12 rfl dX9_pass_57 ?_
      refine zc_ro (zr_S (As := [.ref a0]) (rest := []) X (m_X9_onMeadows l g a0 (m_days f n r q)) zL_RX9_141 (zH.cons (va_P.one (hW.H.at 1 0 rfl rfl)) zH.nil) hS hA0 hls rfl (Nat.le_of_ble_eq_true rfl) ⟨rfl, rfl, Nat.le_of_ble_eq_true rfl, Nat.le_of_ble_eq_true rfl, (Nat.le_of_ble_eq_true rfl), (Nat.le_of_ble_eq_true rfl)⟩ dX9_pass_60) ?_
      refine lv_iload_n hx hb dX9_pass_63 rfl (lv_at hl 0 rfl) ?_
      refine lv_isub hx hb dX9_pass_64 ?_
      refine zWR.iret X hAe hW hS hr hlocks ?_ (Nat.le_of_ble_eq_true rfl) (Nat.le_of_ble_eq_true rfl) dX9_pass_65
      exact ⟨_, rfl, rfl⟩
    · exact absurd (hmp.symm.trans c26_1) (by decide)
  · exact absurd ((m_in_T (a := 1) (b := 60) rfl rfl rfl (by omega) (by omega) (by decide)).symm.trans c12_0) (by decide)

abbrev rm_X9_isFor : Room := { frames := 1, cells := 0, slots := 0, locals := 22 }
set_option maxHeartbeats 4000000 in
set_option maxRecDepth 100000 in
theorem m_X9_isFor (l : Launch) (g : zG) (q : Nat) (v : Int32) (hq : q < 4) : zRO l yX9_isFor cX9_isFor 2 (Option.some Jvm.ClassFile.FieldType.boolean) rm_X9_isFor g [.int (nI q), .int v] (fun _ => True) (.int (zb (m_isFor q v))) := by
  refine zRO.start (by decide) (Nat.le_of_ble_eq_true rfl) ?_
  intro zp ze s zm zbl zmt zc ls X hr hlocks hP hl hS hA0
  have hx := X.1
  have hb := X.2.1
  have hml := X.2.2.1
  have hown := X.2.2.2.1
  have hls := hl.1
  have hl : lv_has ls 2 [(0, .int (nI q)), (1, .int v)] := hl
  refine lv_iload_n hx hb dX9_isFor_0 rfl (lv_at hl 0 rfl) ?_
  by_cases sw1_0 : nI q = 0
  · refine z_stk (b := [.int 0]) (by rw [sw1_0]) ?_
    refine lv_tableIn (off := 27) (tgt := 28) hx hb dX9_isFor_1 (by decide) (by decide) rfl (by decide) ?_
    have ksw1 : q = 0 := (zn_eq rfl rfl (by omega) (by omega)).mp sw1_0
    refine lv_iload_n hx hb dX9_isFor_28 rfl (lv_at hl 1 rfl) ?_
    refine lv_iconst (v := 1) hx hb dX9_isFor_29 rfl ?_
    refine lv_bipush (v := 40) hx hb dX9_isFor_30 (by decide) ?_
    refine zc_ro (zr_S (As := [.int v, .int 1, .int 40]) (rest := []) X (m_X9_in l g v 1 40) zL_RX9_36 trivial hS hA0 hls rfl (Nat.le_of_ble_eq_true rfl) ⟨rfl, rfl, Nat.le_of_ble_eq_true rfl, Nat.le_of_ble_eq_true rfl, (Nat.le_of_ble_eq_true rfl), (Nat.le_of_ble_eq_true rfl)⟩ dX9_isFor_32) ?_
    refine zRO.zret X hr (zb_nar _) hlocks ?_ dX9_isFor_35
    rw [ksw1]
    rfl
  by_cases sw1_1 : nI q = 1
  · refine z_stk (b := [.int 1]) (by rw [sw1_1]) ?_
    refine lv_tableIn (off := 35) (tgt := 36) hx hb dX9_isFor_1 (by decide) (by decide) rfl (by decide) ?_
    have ksw1 : q = 1 := (zn_eq rfl rfl (by omega) (by omega)).mp sw1_1
    refine lv_iload_n hx hb dX9_isFor_36 rfl (lv_at hl 1 rfl) ?_
    refine lv_iconst (v := 0) hx hb dX9_isFor_37 rfl ?_
    refine lv_bipush (v := 20) hx hb dX9_isFor_38 (by decide) ?_
    refine zc_ro (zr_S (As := [.int v, .int 0, .int 20]) (rest := []) X (m_X9_in l g v 0 20) zL_RX9_36 trivial hS hA0 hls rfl (Nat.le_of_ble_eq_true rfl) ⟨rfl, rfl, Nat.le_of_ble_eq_true rfl, Nat.le_of_ble_eq_true rfl, (Nat.le_of_ble_eq_true rfl), (Nat.le_of_ble_eq_true rfl)⟩ dX9_isFor_40) ?_
    refine zRO.zret X hr (zb_nar _) hlocks ?_ dX9_isFor_43
    rw [ksw1]
    rfl
  by_cases sw1_2 : nI q = 2
  · refine z_stk (b := [.int 2]) (by rw [sw1_2]) ?_
    refine lv_tableIn (off := 43) (tgt := 44) hx hb dX9_isFor_1 (by decide) (by decide) rfl (by decide) ?_
    have ksw1 : q = 2 := (zn_eq rfl rfl (by omega) (by omega)).mp sw1_2
    refine lv_iload_n hx hb dX9_isFor_44 rfl (lv_at hl 1 rfl) ?_
    refine lv_iconst (v := 1) hx hb dX9_isFor_45 rfl ?_
    refine lv_sipush (v := 200) hx hb dX9_isFor_46 (by decide) ?_
    refine zc_ro (zr_S (As := [.int v, .int 1, .int 200]) (rest := []) X (m_X9_in l g v 1 200) zL_RX9_36 trivial hS hA0 hls rfl (Nat.le_of_ble_eq_true rfl) ⟨rfl, rfl, Nat.le_of_ble_eq_true rfl, Nat.le_of_ble_eq_true rfl, (Nat.le_of_ble_eq_true rfl), (Nat.le_of_ble_eq_true rfl)⟩ dX9_isFor_49) ?_
    refine zRO.zret X hr (zb_nar _) hlocks ?_ dX9_isFor_52
    rw [ksw1]
    rfl
  have ksw1_0 : ¬ q = 0 := fun h => sw1_0 (by rw [show (nI q) = nI q from rfl, h]; rfl)
  have ksw1_1 : ¬ q = 1 := fun h => sw1_1 (by rw [show (nI q) = nI q from rfl, h]; rfl)
  have ksw1_2 : ¬ q = 2 := fun h => sw1_2 (by rw [show (nI q) = nI q from rfl, h]; rfl)
  refine lv_tableOut (tgt := 53) hx hb dX9_isFor_1 (Or.inr (by rw [show (nI q) = nI q from rfl, nI_toInt (show q < 2 ^ 31 by omega)]; omega)) (by decide) ?_
  refine lv_iload_n hx hb dX9_isFor_53 rfl (lv_at hl 1 rfl) ?_
  refine lv_iconst (v := 1) hx hb dX9_isFor_54 rfl ?_
  refine lv_bipush (v := 50) hx hb dX9_isFor_55 (by decide) ?_
  refine zc_ro (zr_S (As := [.int v, .int 1, .int 50]) (rest := []) X (m_X9_in l g v 1 50) zL_RX9_36 trivial hS hA0 hls rfl (Nat.le_of_ble_eq_true rfl) ⟨rfl, rfl, Nat.le_of_ble_eq_true rfl, Nat.le_of_ble_eq_true rfl, (Nat.le_of_ble_eq_true rfl), (Nat.le_of_ble_eq_true rfl)⟩ dX9_isFor_57) ?_
  refine zRO.zret X hr (zb_nar _) hlocks ?_ dX9_isFor_60
  rw [show q = 3 by omega]
  rfl

abbrev rm_X9_set_bad1 : Room := { frames := 1, cells := 0, slots := 0, locals := 22 }
set_option maxHeartbeats 4000000 in
set_option maxRecDepth 100000 in
theorem m_X9_set_bad1 (l : Launch) (g : zG) (x a0 a1 a2 a3 a4 a5 a6 : Nat) (k ty at_ tl : Nat) (thr val : Int32) (bF bC : Bool) (q v : Int32) (hbad : m_in q 0 3 = false) (sz : Nat) : zWR l yX9_set cX9_set 3 (Option.some Jvm.ClassFile.FieldType.int) rm_X9_set_bad1 g [.ref x, .int q, .int v] ([[(x, .inr (12, [.ref a0, .ref a1, .ref a2, .int (nI k), .ref a3, .ref a4, .ref a5, .int (nI ty), .int thr, .int (nI at_), .int (zb bF), .int val, .ref a6, .int (nI tl), .int (zb bC)]))]] : List va_W) 0 0 sz (fun zv gs' => zv = some (.int (0)) ∧ gs' = [[(x, .inr (12, [.ref a0, .ref a1, .ref a2, .int (nI k), .ref a3, .ref a4, .ref a5, .int (nI ty), .int 1, .int (nI at_), .int (zb bF), .int val, .ref a6, .int (nI tl), .int (zb bC)]))]]) := by
  refine zWR.start (by decide) (Nat.le_of_ble_eq_true rfl) ?_
  intro zp ze s zm zbl zmt zc ls A X hr hlocks hinn hl hAe hW hS hA hA0
  have hx := X.1
  have hb := X.2.1
  have hml := X.2.2.1
  have hown := X.2.2.2.1
  have hls := hl.1
  have hl : lv_has ls 3 [(0, .ref x), (1, .int q), (2, .int v)] := hl
  refine lv_aload_n hx hb dX9_set_0 rfl (lv_at hl 0 rfl) ?_
  refine lv_iconst (v := 0) hx hb dX9_set_1 rfl ?_
  refine z_put X hW hS 0 0 rfl rfl zP_RX9_32_12 rfl rfl (Nat.le_of_ble_eq_true rfl) dX9_set_2 (fun H locs hW hS => ?_)
  have hW : zW g A ([[(x, .inr (12, [.ref a0, .ref a1, .ref a2, .int (nI k), .ref a3, .ref a4, .ref a5, .int (nI ty), .int 0, .int (nI at_), .int (zb bF), .int val, .ref a6, .int (nI tl), .int (zb bC)]))]] : List va_W) H := hW
  refine lv_iload_n hx hb dX9_set_5 rfl (lv_at hl 1 rfl) ?_
  refine lv_iconst (v := 0) hx hb dX9_set_6 rfl ?_
  refine lv_iconst (v := 3) hx hb dX9_set_7 rfl ?_
  refine zc_ro (zr_S (As := [.int q, .int 0, .int 3]) (rest := []) X (m_X9_in l g q 0 3) zL_RX9_36 trivial hS hA0 hls rfl (Nat.le_of_ble_eq_true rfl) ⟨rfl, rfl, Nat.le_of_ble_eq_true rfl, Nat.le_of_ble_eq_true rfl, (Nat.le_of_ble_eq_true rfl), (Nat.le_of_ble_eq_true rfl)⟩ dX9_set_8) ?_
  refine zb_ifne (tgt := 20) hx hb dX9_set_11 (by decide) (fun c11_0 => ?_) (fun c11_0 => ?_)
  · exact absurd (hbad.symm.trans c11_0) (by decide)
  · skip
    refine lv_aload_n hx hb dX9_set_14 rfl (lv_at hl 0 rfl) ?_
    refine lv_iconst (v := 1) hx hb dX9_set_15 rfl ?_
    refine zc_wr (gc := [[(x, .inr (12, [.ref a0, .ref a1, .ref a2, .int (nI k), .ref a3, .ref a4, .ref a5, .int (nI ty), .int 0, .int (nI at_), .int (zb bF), .int val, .ref a6, .int (nI tl), .int (zb bC)]))]]) (gr := []) (zr_V (As := [.int 1]) (rest := []) X (m_X9_fails l g x a0 a1 a2 a3 a4 a5 a6 k ty at_ tl 0 val bF bC 1 _) zL_RX9_47 (ci := 12) rfl (hW.H.at 0 0 rfl rfl) (zW.pre (gc := [[(x, .inr (12, [.ref a0, .ref a1, .ref a2, .int (nI k), .ref a3, .ref a4, .ref a5, .int (nI ty), .int 0, .int (nI at_), .int (zb bF), .int val, .ref a6, .int (nI tl), .int (zb bC)]))]]) (gr := []) hW hA0) hS hA0 hls rfl (Nat.le_of_ble_eq_true rfl) ⟨rfl, rfl, Nat.le_of_ble_eq_true rfl, Nat.le_of_ble_eq_true rfl, (Nat.le_of_ble_eq_true rfl), (Nat.le_of_ble_eq_true rfl)⟩ dX9_set_16) hW hS hA (fun v gc' H locs hpost hW hS => ?_)
    obtain ⟨rfl, rfl⟩ := hpost
    have hW : zW g A ([[(x, .inr (12, [.ref a0, .ref a1, .ref a2, .int (nI k), .ref a3, .ref a4, .ref a5, .int (nI ty), .int 1, .int (nI at_), .int (zb bF), .int val, .ref a6, .int (nI tl), .int (zb bC)]))]] : List va_W) H := hW
    refine W.eq (g2 := F0 zm 19 ls [.int 0]) rfl ?_
    refine zWR.iret X hAe hW hS hr hlocks ?_ (Nat.le_of_ble_eq_true rfl) (Nat.le_of_ble_eq_true rfl) dX9_set_19
    exact ⟨rfl, rfl⟩

abbrev rm_X9_set_bad2 : Room := { frames := 2, cells := 0, slots := 0, locals := 43 }
set_option maxHeartbeats 4000000 in
set_option maxRecDepth 100000 in
theorem m_X9_set_bad2 (l : Launch) (g : zG) (x a0 a1 a2 a3 a4 a5 a6 : Nat) (k ty at_ tl : Nat) (thr val : Int32) (bF bC : Bool) (q : Nat) (v : Int32) (hq : q < 4) (hbad : m_isFor q v = false) (sz : Nat) : zWR l yX9_set cX9_set 3 (Option.some Jvm.ClassFile.FieldType.int) rm_X9_set_bad2 g [.ref x, .int (nI q), .int v] ([[(x, .inr (12, [.ref a0, .ref a1, .ref a2, .int (nI k), .ref a3, .ref a4, .ref a5, .int (nI ty), .int thr, .int (nI at_), .int (zb bF), .int val, .ref a6, .int (nI tl), .int (zb bC)]))]] : List va_W) 0 0 sz (fun zv gs' => zv = some (.int (0)) ∧ gs' = [[(x, .inr (12, [.ref a0, .ref a1, .ref a2, .int (nI k), .ref a3, .ref a4, .ref a5, .int (nI ty), .int 2, .int (nI at_), .int (zb bF), .int val, .ref a6, .int (nI tl), .int (zb bC)]))]]) := by
  refine zWR.start (by decide) (Nat.le_of_ble_eq_true rfl) ?_
  intro zp ze s zm zbl zmt zc ls A X hr hlocks hinn hl hAe hW hS hA hA0
  have hx := X.1
  have hb := X.2.1
  have hml := X.2.2.1
  have hown := X.2.2.2.1
  have hls := hl.1
  have hl : lv_has ls 3 [(0, .ref x), (1, .int (nI q)), (2, .int v)] := hl
  refine lv_aload_n hx hb dX9_set_0 rfl (lv_at hl 0 rfl) ?_
  refine lv_iconst (v := 0) hx hb dX9_set_1 rfl ?_
  refine z_put X hW hS 0 0 rfl rfl zP_RX9_32_12 rfl rfl (Nat.le_of_ble_eq_true rfl) dX9_set_2 (fun H locs hW hS => ?_)
  have hW : zW g A ([[(x, .inr (12, [.ref a0, .ref a1, .ref a2, .int (nI k), .ref a3, .ref a4, .ref a5, .int (nI ty), .int 0, .int (nI at_), .int (zb bF), .int val, .ref a6, .int (nI tl), .int (zb bC)]))]] : List va_W) H := hW
  refine lv_iload_n hx hb dX9_set_5 rfl (lv_at hl 1 rfl) ?_
  refine lv_iconst (v := 0) hx hb dX9_set_6 rfl ?_
  refine lv_iconst (v := 3) hx hb dX9_set_7 rfl ?_
  refine zc_ro (zr_S (As := [.int (nI q), .int 0, .int 3]) (rest := []) X (m_X9_in l g (nI q) 0 3) zL_RX9_36 trivial hS hA0 hls rfl (Nat.le_of_ble_eq_true rfl) ⟨rfl, rfl, Nat.le_of_ble_eq_true rfl, Nat.le_of_ble_eq_true rfl, (Nat.le_of_ble_eq_true rfl), (Nat.le_of_ble_eq_true rfl)⟩ dX9_set_8) ?_
  refine zb_ifne (tgt := 20) hx hb dX9_set_11 (by decide) (fun c11_0 => ?_) (fun c11_0 => ?_)
  · skip
    refine lv_iload_n hx hb dX9_set_20 rfl (lv_at hl 1 rfl) ?_
    refine lv_iload_n hx hb dX9_set_21 rfl (lv_at hl 2 rfl) ?_
    refine zc_ro (zr_S (As := [.int (nI q), .int v]) (rest := []) X (m_X9_isFor l g q v (by omega)) zL_RX9_147 trivial hS hA0 hls rfl (Nat.le_of_ble_eq_true rfl) ⟨rfl, rfl, Nat.le_of_ble_eq_true rfl, Nat.le_of_ble_eq_true rfl, (Nat.le_of_ble_eq_true rfl), (Nat.le_of_ble_eq_true rfl)⟩ dX9_set_22) ?_
    refine zb_ifne (tgt := 34) hx hb dX9_set_25 (by decide) (fun c25_1 => ?_) (fun c25_1 => ?_)
    · exact absurd (hbad.symm.trans c25_1) (by decide)
    · skip
      refine lv_aload_n hx hb dX9_set_28 rfl (lv_at hl 0 rfl) ?_
      refine lv_iconst (v := 2) hx hb dX9_set_29 rfl ?_
      refine zc_wr (gc := [[(x, .inr (12, [.ref a0, .ref a1, .ref a2, .int (nI k), .ref a3, .ref a4, .ref a5, .int (nI ty), .int 0, .int (nI at_), .int (zb bF), .int val, .ref a6, .int (nI tl), .int (zb bC)]))]]) (gr := []) (zr_V (As := [.int 2]) (rest := []) X (m_X9_fails l g x a0 a1 a2 a3 a4 a5 a6 k ty at_ tl 0 val bF bC 2 _) zL_RX9_47 (ci := 12) rfl (hW.H.at 0 0 rfl rfl) (zW.pre (gc := [[(x, .inr (12, [.ref a0, .ref a1, .ref a2, .int (nI k), .ref a3, .ref a4, .ref a5, .int (nI ty), .int 0, .int (nI at_), .int (zb bF), .int val, .ref a6, .int (nI tl), .int (zb bC)]))]]) (gr := []) hW hA0) hS hA0 hls rfl (Nat.le_of_ble_eq_true rfl) ⟨rfl, rfl, Nat.le_of_ble_eq_true rfl, Nat.le_of_ble_eq_true rfl, (Nat.le_of_ble_eq_true rfl), (Nat.le_of_ble_eq_true rfl)⟩ dX9_set_30) hW hS hA (fun v gc' H locs hpost hW hS => ?_)
      obtain ⟨rfl, rfl⟩ := hpost
      have hW : zW g A ([[(x, .inr (12, [.ref a0, .ref a1, .ref a2, .int (nI k), .ref a3, .ref a4, .ref a5, .int (nI ty), .int 2, .int (nI at_), .int (zb bF), .int val, .ref a6, .int (nI tl), .int (zb bC)]))]] : List va_W) H := hW
      refine W.eq (g2 := F0 zm 33 ls [.int 0]) rfl ?_
      refine zWR.iret X hAe hW hS hr hlocks ?_ (Nat.le_of_ble_eq_true rfl) (Nat.le_of_ble_eq_true rfl) dX9_set_33
      exact ⟨rfl, rfl⟩
  · exact absurd ((m_in_T (a := 0) (b := 3) rfl rfl rfl (by omega) (by omega) (by decide)).symm.trans c11_0) (by decide)

abbrev rm_X9_set_ok : Room := { frames := 2, cells := 0, slots := 0, locals := 45 }
set_option maxHeartbeats 4000000 in
set_option maxRecDepth 100000 in
theorem m_X9_set_ok (l : Launch) (g : zG) (x a0 a1 a2 a3 a4 a5 a6 : Nat) (k ty at_ tl : Nat) (thr val : Int32) (bF bC : Bool) (f pa : Nat → Int32) (q : Nat) (v : Int32) (hq : q < 4) (hv : m_isFor q v = true) (hk : k ≤ 6) (sz : Nat) : zWR l yX9_set cX9_set 3 (Option.some Jvm.ClassFile.FieldType.int) rm_X9_set_ok g [.ref x, .int (nI q), .int v] ([[(x, .inr (12, [.ref a0, .ref a1, .ref a2, .int (nI k), .ref a3, .ref a4, .ref a5, .int (nI ty), .int thr, .int (nI at_), .int (zb bF), .int val, .ref a6, .int (nI tl), .int (zb bC)]))], [(a0, .inl (g.2.1 0, 89, .inl f))], [(a2, .inl (g.2.1 0, 534, .inl pa))]] : List va_W) 0 0 sz (fun zv gs' => zv = some (.int (f q)) ∧ gs' = [[(x, .inr (12, [.ref a0, .ref a1, .ref a2, .int (nI (m_sk k + 1)), .ref a3, .ref a4, .ref a5, .int (nI ty), .int 0, .int (nI at_), .int (zb bF), .int val, .ref a6, .int (nI tl), .int (zb bC)]))], [(a0, .inl (g.2.1 0, 89, .inl (upd f q v)))], [(a2, .inl (g.2.1 0, 534, .inl (m_save f k pa)))]]) := by
  refine zWR.start (by decide) (Nat.le_of_ble_eq_true rfl) ?_
  intro zp ze s zm zbl zmt zc ls A X hr hlocks hinn hl hAe hW hS hA hA0
  have hx := X.1
  have hb := X.2.1
  have hml := X.2.2.1
  have hown := X.2.2.2.1
  have hls := hl.1
  have hl : lv_has ls 3 [(0, .ref x), (1, .int (nI q)), (2, .int v)] := hl
  refine lv_aload_n hx hb dX9_set_0 rfl (lv_at hl 0 rfl) ?_
  refine lv_iconst (v := 0) hx hb dX9_set_1 rfl ?_
  refine z_put X hW hS 0 0 rfl rfl zP_RX9_32_12 rfl rfl (Nat.le_of_ble_eq_true rfl) dX9_set_2 (fun H locs hW hS => ?_)
  have hW : zW g A ([[(x, .inr (12, [.ref a0, .ref a1, .ref a2, .int (nI k), .ref a3, .ref a4, .ref a5, .int (nI ty), .int 0, .int (nI at_), .int (zb bF), .int val, .ref a6, .int (nI tl), .int (zb bC)]))], [(a0, .inl (g.2.1 0, 89, .inl f))], [(a2, .inl (g.2.1 0, 534, .inl pa))]] : List va_W) H := hW
  refine lv_iload_n hx hb dX9_set_5 rfl (lv_at hl 1 rfl) ?_
  refine lv_iconst (v := 0) hx hb dX9_set_6 rfl ?_
  refine lv_iconst (v := 3) hx hb dX9_set_7 rfl ?_
  refine zc_ro (zr_S (As := [.int (nI q), .int 0, .int 3]) (rest := []) X (m_X9_in l g (nI q) 0 3) zL_RX9_36 trivial hS hA0 hls rfl (Nat.le_of_ble_eq_true rfl) ⟨rfl, rfl, Nat.le_of_ble_eq_true rfl, Nat.le_of_ble_eq_true rfl, (Nat.le_of_ble_eq_true rfl), (Nat.le_of_ble_eq_true rfl)⟩ dX9_set_8) ?_
  refine zb_ifne (tgt := 20) hx hb dX9_set_11 (by decide) (fun c11_0 => ?_) (fun c11_0 => ?_)
  · skip
    refine lv_iload_n hx hb dX9_set_20 rfl (lv_at hl 1 rfl) ?_
    refine lv_iload_n hx hb dX9_set_21 rfl (lv_at hl 2 rfl) ?_
    refine zc_ro (zr_S (As := [.int (nI q), .int v]) (rest := []) X (m_X9_isFor l g q v (by omega)) zL_RX9_147 trivial hS hA0 hls rfl (Nat.le_of_ble_eq_true rfl) ⟨rfl, rfl, Nat.le_of_ble_eq_true rfl, Nat.le_of_ble_eq_true rfl, (Nat.le_of_ble_eq_true rfl), (Nat.le_of_ble_eq_true rfl)⟩ dX9_set_22) ?_
    refine zb_ifne (tgt := 34) hx hb dX9_set_25 (by decide) (fun c25_1 => ?_) (fun c25_1 => ?_)
    · skip
      refine lv_aload_n hx hb dX9_set_34 rfl (lv_at hl 0 rfl) ?_
      refine zc_wr (gc := [[(x, .inr (12, [.ref a0, .ref a1, .ref a2, .int (nI k), .ref a3, .ref a4, .ref a5, .int (nI ty), .int 0, .int (nI at_), .int (zb bF), .int val, .ref a6, .int (nI tl), .int (zb bC)]))], [(a0, .inl (g.2.1 0, 89, .inl f))], [(a2, .inl (g.2.1 0, 534, .inl pa))]]) (gr := []) (zr_V (As := []) (rest := []) X (m_X9_saves l g x a0 a1 a2 a3 a4 a5 a6 k ty at_ tl 0 val bF bC f pa hk _) zL_RX9_51 (ci := 12) rfl (hW.H.at 0 0 rfl rfl) (zW.pre (gc := [[(x, .inr (12, [.ref a0, .ref a1, .ref a2, .int (nI k), .ref a3, .ref a4, .ref a5, .int (nI ty), .int 0, .int (nI at_), .int (zb bF), .int val, .ref a6, .int (nI tl), .int (zb bC)]))], [(a0, .inl (g.2.1 0, 89, .inl f))], [(a2, .inl (g.2.1 0, 534, .inl pa))]]) (gr := []) hW hA0) hS hA0 hls rfl (Nat.le_of_ble_eq_true rfl) ⟨rfl, rfl, Nat.le_of_ble_eq_true rfl, Nat.le_of_ble_eq_true rfl, (Nat.le_of_ble_eq_true rfl), (Nat.le_of_ble_eq_true rfl)⟩ dX9_set_35) hW hS hA (fun v gc' H locs hpost hW hS => ?_)
      obtain ⟨rfl, rfl⟩ := hpost
      have hW : zW g A ([[(x, .inr (12, [.ref a0, .ref a1, .ref a2, .int (nI (m_sk k + 1)), .ref a3, .ref a4, .ref a5, .int (nI ty), .int 0, .int (nI at_), .int (zb bF), .int val, .ref a6, .int (nI tl), .int (zb bC)]))], [(a0, .inl (g.2.1 0, 89, .inl f))], [(a2, .inl (g.2.1 0, 534, .inl (m_save f k pa)))]] : List va_W) H := hW
      refine W.eq (g2 := F0 zm 38 ls []) rfl ?_
      refine lv_aload_n hx hb dX9_set_38 rfl (lv_at hl 0 rfl) ?_
      refine lv_iload_n hx hb dX9_set_39 rfl (lv_at hl 1 rfl) ?_
      refine lv_iload_n hx hb dX9_set_40 rfl (lv_at hl 2 rfl) ?_
      refine zc_wr (gc := [[(x, .inr (12, [.ref a0, .ref a1, .ref a2, .int (nI (m_sk k + 1)), .ref a3, .ref a4, .ref a5, .int (nI ty), .int 0, .int (nI at_), .int (zb bF), .int val, .ref a6, .int (nI tl), .int (zb bC)]))], [(a0, .inl (g.2.1 0, 89, .inl f))]]) (gr := [[(a2, .inl (g.2.1 0, 534, .inl (m_save f k pa)))]]) (zr_V (As := [.int (nI q), .int v]) (rest := []) X (m_X9_changes l g x a0 a1 a2 a3 a4 a5 a6 (m_sk k + 1) ty at_ tl 0 val bF bC f q v (by omega) _) zL_RX9_122 (ci := 12) rfl (hW.H.at 0 0 rfl rfl) (zW.pre (gc := [[(x, .inr (12, [.ref a0, .ref a1, .ref a2, .int (nI (m_sk k + 1)), .ref a3, .ref a4, .ref a5, .int (nI ty), .int 0, .int (nI at_), .int (zb bF), .int val, .ref a6, .int (nI tl), .int (zb bC)]))], [(a0, .inl (g.2.1 0, 89, .inl f))]]) (gr := [[(a2, .inl (g.2.1 0, 534, .inl (m_save f k pa)))]]) hW hA0) hS hA0 hls rfl (Nat.le_of_ble_eq_true rfl) ⟨rfl, rfl, Nat.le_of_ble_eq_true rfl, Nat.le_of_ble_eq_true rfl, (Nat.le_of_ble_eq_true rfl), (Nat.le_of_ble_eq_true rfl)⟩ dX9_set_41) hW hS hA (fun v gc' H locs hpost hW hS => ?_)
      obtain ⟨rfl, rfl⟩ := hpost
      have hW : zW g A ([[(x, .inr (12, [.ref a0, .ref a1, .ref a2, .int (nI (m_sk k + 1)), .ref a3, .ref a4, .ref a5, .int (nI ty), .int 0, .int (nI at_), .int (zb bF), .int val, .ref a6, .int (nI tl), .int (zb bC)]))], [(a0, .inl (g.2.1 0, 89, .inl (upd f q v)))], [(a2, .inl (g.2.1 0, 534, .inl (m_save f k pa)))]] : List va_W) H := hW
      refine W.eq (g2 := F0 zm 44 ls [.int (f q)]) rfl ?_
      refine zWR.iret X hAe hW hS hr hlocks ?_ (Nat.le_of_ble_eq_true rfl) (Nat.le_of_ble_eq_true rfl) dX9_set_44
      exact ⟨rfl, rfl⟩
    · exact absurd (hv.symm.trans c25_1) (by decide)
  · exact absurd ((m_in_T (a := 0) (b := 3) rfl rfl rfl (by omega) (by omega) (by decide)).symm.trans c11_0) (by decide)

abbrev rm_X9_undo_bad : Room := { frames := 1, cells := 0, slots := 0, locals := 21 }
set_option maxHeartbeats 4000000 in
set_option maxRecDepth 100000 in
theorem m_X9_undo_bad (l : Launch) (g : zG) (x a0 a1 a2 a3 a4 a5 a6 : Nat) (k ty at_ tl : Nat) (thr val : Int32) (bF bC : Bool) (hk0 : k = 0) (sz : Nat) : zWR l yX9_undo cX9_undo 1 (Option.some Jvm.ClassFile.FieldType.int) rm_X9_undo_bad g [.ref x] ([[(x, .inr (12, [.ref a0, .ref a1, .ref a2, .int (nI k), .ref a3, .ref a4, .ref a5, .int (nI ty), .int thr, .int (nI at_), .int (zb bF), .int val, .ref a6, .int (nI tl), .int (zb bC)]))]] : List va_W) 0 0 sz (fun zv gs' => zv = some (.int (0)) ∧ gs' = [[(x, .inr (12, [.ref a0, .ref a1, .ref a2, .int (nI k), .ref a3, .ref a4, .ref a5, .int (nI ty), .int 1, .int (nI at_), .int (zb bF), .int val, .ref a6, .int (nI tl), .int (zb bC)]))]]) := by
  refine zWR.start (by decide) (Nat.le_of_ble_eq_true rfl) ?_
  intro zp ze s zm zbl zmt zc ls A X hr hlocks hinn hl hAe hW hS hA hA0
  have hx := X.1
  have hb := X.2.1
  have hml := X.2.2.1
  have hown := X.2.2.2.1
  have hls := hl.1
  have hl : lv_has ls 1 [(0, .ref x)] := hl
  refine lv_aload_n hx hb dX9_undo_0 rfl (lv_at hl 0 rfl) ?_
  refine lv_iconst (v := 0) hx hb dX9_undo_1 rfl ?_
  refine z_put X hW hS 0 0 rfl rfl zP_RX9_32_12 rfl rfl (Nat.le_of_ble_eq_true rfl) dX9_undo_2 (fun H locs hW hS => ?_)
  have hW : zW g A ([[(x, .inr (12, [.ref a0, .ref a1, .ref a2, .int (nI k), .ref a3, .ref a4, .ref a5, .int (nI ty), .int 0, .int (nI at_), .int (zb bF), .int val, .ref a6, .int (nI tl), .int (zb bC)]))]] : List va_W) H := hW
  refine lv_aload_n hx hb dX9_undo_5 rfl (lv_at hl 0 rfl) ?_
  refine z_get X (hW.H.at 0 0 rfl rfl) zF_RX9_40_12 rfl dX9_undo_6 ?_
  refine lv_if_ne (tgt := 18) hx hb dX9_undo_9 (by decide) (fun c9_0 => ?_) (fun c9_0 => ?_)
  · exact absurd (by rw [hk0]; rfl) c9_0
  · skip
    refine lv_aload_n hx hb dX9_undo_12 rfl (lv_at hl 0 rfl) ?_
    refine lv_iconst (v := 1) hx hb dX9_undo_13 rfl ?_
    refine zc_wr (gc := [[(x, .inr (12, [.ref a0, .ref a1, .ref a2, .int (nI k), .ref a3, .ref a4, .ref a5, .int (nI ty), .int 0, .int (nI at_), .int (zb bF), .int val, .ref a6, .int (nI tl), .int (zb bC)]))]]) (gr := []) (zr_V (As := [.int 1]) (rest := []) X (m_X9_fails l g x a0 a1 a2 a3 a4 a5 a6 k ty at_ tl 0 val bF bC 1 _) zL_RX9_47 (ci := 12) rfl (hW.H.at 0 0 rfl rfl) (zW.pre (gc := [[(x, .inr (12, [.ref a0, .ref a1, .ref a2, .int (nI k), .ref a3, .ref a4, .ref a5, .int (nI ty), .int 0, .int (nI at_), .int (zb bF), .int val, .ref a6, .int (nI tl), .int (zb bC)]))]]) (gr := []) hW hA0) hS hA0 hls rfl (Nat.le_of_ble_eq_true rfl) ⟨rfl, rfl, Nat.le_of_ble_eq_true rfl, Nat.le_of_ble_eq_true rfl, (Nat.le_of_ble_eq_true rfl), (Nat.le_of_ble_eq_true rfl)⟩ dX9_undo_14) hW hS hA (fun v gc' H locs hpost hW hS => ?_)
    obtain ⟨rfl, rfl⟩ := hpost
    have hW : zW g A ([[(x, .inr (12, [.ref a0, .ref a1, .ref a2, .int (nI k), .ref a3, .ref a4, .ref a5, .int (nI ty), .int 1, .int (nI at_), .int (zb bF), .int val, .ref a6, .int (nI tl), .int (zb bC)]))]] : List va_W) H := hW
    refine W.eq (g2 := F0 zm 17 ls [.int 0]) rfl ?_
    refine zWR.iret X hAe hW hS hr hlocks ?_ (Nat.le_of_ble_eq_true rfl) (Nat.le_of_ble_eq_true rfl) dX9_undo_17
    exact ⟨rfl, rfl⟩

abbrev rm_X9_undo_ok : Room := { frames := 1, cells := 0, slots := 0, locals := 24 }
set_option maxHeartbeats 4000000 in
set_option maxRecDepth 100000 in
theorem m_X9_undo_ok (l : Launch) (g : zG) (x a0 a1 a2 a3 a4 a5 a6 : Nat) (k ty at_ tl : Nat) (thr val : Int32) (bF bC : Bool) (f pa : Nat → Int32) (hk0 : 1 ≤ k) (hk : k ≤ 6) (sz : Nat) : zWR l yX9_undo cX9_undo 1 (Option.some Jvm.ClassFile.FieldType.int) rm_X9_undo_ok g [.ref x] ([[(x, .inr (12, [.ref a0, .ref a1, .ref a2, .int (nI k), .ref a3, .ref a4, .ref a5, .int (nI ty), .int thr, .int (nI at_), .int (zb bF), .int val, .ref a6, .int (nI tl), .int (zb bC)]))], [(a0, .inl (g.2.1 0, 89, .inl f))], [(a2, .inl (g.2.1 0, 534, .inl pa))]] : List va_W) 0 0 sz (fun zv gs' => zv = some (.int (nI (k - 1))) ∧ gs' = [[(x, .inr (12, [.ref a0, .ref a1, .ref a2, .int (nI (k - 1)), .ref a3, .ref a4, .ref a5, .int (nI ty), .int 0, .int (nI at_), .int (zb bF), .int val, .ref a6, .int (nI tl), .int (zb bC)]))], [(a0, .inl (g.2.1 0, 89, .inl (va_cpy pa f (89 * (k - 1)) 0 89)))], [(a2, .inl (g.2.1 0, 534, .inl pa))]]) := by
  refine zWR.start (by decide) (Nat.le_of_ble_eq_true rfl) ?_
  intro zp ze s zm zbl zmt zc ls A X hr hlocks hinn hl hAe hW hS hA hA0
  have hx := X.1
  have hb := X.2.1
  have hml := X.2.2.1
  have hown := X.2.2.2.1
  have hls := hl.1
  have hl : lv_has ls 1 [(0, .ref x)] := hl
  refine lv_aload_n hx hb dX9_undo_0 rfl (lv_at hl 0 rfl) ?_
  refine lv_iconst (v := 0) hx hb dX9_undo_1 rfl ?_
  refine z_put X hW hS 0 0 rfl rfl zP_RX9_32_12 rfl rfl (Nat.le_of_ble_eq_true rfl) dX9_undo_2 (fun H locs hW hS => ?_)
  have hW : zW g A ([[(x, .inr (12, [.ref a0, .ref a1, .ref a2, .int (nI k), .ref a3, .ref a4, .ref a5, .int (nI ty), .int 0, .int (nI at_), .int (zb bF), .int val, .ref a6, .int (nI tl), .int (zb bC)]))], [(a0, .inl (g.2.1 0, 89, .inl f))], [(a2, .inl (g.2.1 0, 534, .inl pa))]] : List va_W) H := hW
  refine lv_aload_n hx hb dX9_undo_5 rfl (lv_at hl 0 rfl) ?_
  refine z_get X (hW.H.at 0 0 rfl rfl) zF_RX9_40_12 rfl dX9_undo_6 ?_
  refine lv_if_ne (tgt := 18) hx hb dX9_undo_9 (by decide) (fun c9_0 => ?_) (fun c9_0 => ?_)
  · skip
    refine lv_aload_n hx hb dX9_undo_18 rfl (lv_at hl 0 rfl) ?_
    refine lv_dup hx hb dX9_undo_19 rfl ?_
    refine z_get X (hW.H.at 0 0 rfl rfl) zF_RX9_40_12 rfl dX9_undo_20 ?_
    refine lv_iconst (v := 1) hx hb dX9_undo_23 rfl ?_
    refine lv_isub hx hb dX9_undo_24 ?_
    refine z_stk (b := [.int (nI (k - 1)), .ref x]) (by rw [show ((nI k) - 1) = nI (k - 1) from nI_sub (a := k) (b := 1) (by omega)]) ?_
    refine z_put X hW hS 0 0 rfl rfl zP_RX9_40_12 rfl rfl (Nat.le_of_ble_eq_true rfl) dX9_undo_25 (fun H locs hW hS => ?_)
    have hW : zW g A ([[(x, .inr (12, [.ref a0, .ref a1, .ref a2, .int (nI (k - 1)), .ref a3, .ref a4, .ref a5, .int (nI ty), .int 0, .int (nI at_), .int (zb bF), .int val, .ref a6, .int (nI tl), .int (zb bC)]))], [(a0, .inl (g.2.1 0, 89, .inl f))], [(a2, .inl (g.2.1 0, 534, .inl pa))]] : List va_W) H := hW
    refine lv_aload_n hx hb dX9_undo_28 rfl (lv_at hl 0 rfl) ?_
    refine z_get X (hW.H.at 0 0 rfl rfl) zF_RX9_16_12 rfl dX9_undo_29 ?_
    refine lv_bipush (v := 89) hx hb dX9_undo_32 (by decide) ?_
    refine lv_aload_n hx hb dX9_undo_34 rfl (lv_at hl 0 rfl) ?_
    refine z_get X (hW.H.at 0 0 rfl rfl) zF_RX9_40_12 rfl dX9_undo_35 ?_
    refine lv_imul hx hb dX9_undo_38 ?_
    refine lv_aload_n hx hb dX9_undo_39 rfl (lv_at hl 0 rfl) ?_
    refine z_get X (hW.H.at 0 0 rfl rfl) zF_RX9_7_12 rfl dX9_undo_40 ?_
    refine lv_iconst (v := 0) hx hb dX9_undo_43 rfl ?_
    refine z_stk (b := [.int 0, .ref a0, .int (nI (89 * (k - 1))), .ref a2]) (by rw [show (89 * (nI (k - 1))) = nI (89 * (k - 1)) from zx_mul rfl rfl]) ?_
    have hW := hW.perm (gs' := ([[(a2, .inl (g.2.1 0, 534, .inl pa))], [(a0, .inl (g.2.1 0, 89, .inl f))], [(x, .inr (12, [.ref a0, .ref a1, .ref a2, .int (nI (k - 1)), .ref a3, .ref a4, .ref a5, .int (nI ty), .int 0, .int (nI at_), .int (zb bF), .int val, .ref a6, .int (nI tl), .int (zb bC)]))]] : List va_W)) [2, 1, 0] 3 rfl (by decide) rfl
    refine zc_wr (gc := [[(a2, .inl (g.2.1 0, 534, .inl pa))], [(a0, .inl (g.2.1 0, 89, .inl f))]]) (gr := [[(x, .inr (12, [.ref a0, .ref a1, .ref a2, .int (nI (k - 1)), .ref a3, .ref a4, .ref a5, .int (nI ty), .int 0, .int (nI at_), .int (zb bF), .int val, .ref a6, .int (nI tl), .int (zb bC)]))]]) (zr_S (As := [.ref a2, .int (nI (89 * (k - 1))), .ref a0, .int 0]) (rest := []) X (m_X9_copies l g a2 a0 (89 * (k - 1)) 0 534 89 pa f (by omega) (by omega) (by omega) (by omega) _) zL_RX9_43 (zW.pre (gc := [[(a2, .inl (g.2.1 0, 534, .inl pa))], [(a0, .inl (g.2.1 0, 89, .inl f))]]) (gr := [[(x, .inr (12, [.ref a0, .ref a1, .ref a2, .int (nI (k - 1)), .ref a3, .ref a4, .ref a5, .int (nI ty), .int 0, .int (nI at_), .int (zb bF), .int val, .ref a6, .int (nI tl), .int (zb bC)]))]]) hW hA0) hS hA0 hls rfl (Nat.le_of_ble_eq_true rfl) ⟨rfl, rfl, Nat.le_of_ble_eq_true rfl, Nat.le_of_ble_eq_true rfl, (Nat.le_of_ble_eq_true rfl), (Nat.le_of_ble_eq_true rfl)⟩ dX9_undo_44) hW hS hA (fun v gc' H locs hpost hW hS => ?_)
    obtain ⟨rfl, rfl⟩ := hpost
    have hW : zW g A ([[(a2, .inl (g.2.1 0, 534, .inl pa))], [(a0, .inl (g.2.1 0, 89, .inl (va_cpy pa f (89 * (k - 1)) 0 89)))], [(x, .inr (12, [.ref a0, .ref a1, .ref a2, .int (nI (k - 1)), .ref a3, .ref a4, .ref a5, .int (nI ty), .int 0, .int (nI at_), .int (zb bF), .int val, .ref a6, .int (nI tl), .int (zb bC)]))]] : List va_W) H := hW
    refine W.eq (g2 := F0 zm 47 ls []) rfl ?_
    refine lv_aload_n hx hb dX9_undo_47 rfl (lv_at hl 0 rfl) ?_
    refine z_get X (hW.H.at 2 0 rfl rfl) zF_RX9_40_12 rfl dX9_undo_48 ?_
    have hW := hW.perm (gs' := ([[(x, .inr (12, [.ref a0, .ref a1, .ref a2, .int (nI (k - 1)), .ref a3, .ref a4, .ref a5, .int (nI ty), .int 0, .int (nI at_), .int (zb bF), .int val, .ref a6, .int (nI tl), .int (zb bC)]))], [(a0, .inl (g.2.1 0, 89, .inl (va_cpy pa f (89 * (k - 1)) 0 89)))], [(a2, .inl (g.2.1 0, 534, .inl pa))]] : List va_W)) [2, 1, 0] 3 rfl (by decide) rfl
    refine zWR.iret X hAe hW hS hr hlocks ?_ (Nat.le_of_ble_eq_true rfl) (Nat.le_of_ble_eq_true rfl) dX9_undo_51
    exact ⟨rfl, rfl⟩
  · exact absurd ((zn_eq (a := k) (b := 0) rfl rfl (by omega) (by omega)).mp c9_0) (by omega)

abbrev rm_X9_keep_bad : Room := { frames := 1, cells := 0, slots := 0, locals := 22 }
set_option maxHeartbeats 4000000 in
set_option maxRecDepth 100000 in
theorem m_X9_keep_bad (l : Launch) (g : zG) (x a0 a1 a2 a3 a4 a5 a6 : Nat) (k ty at_ tl : Nat) (thr val : Int32) (bF bC : Bool) (q : Int32) (hbad : m_in q 0 1 = false) (sz : Nat) : zWR l yX9_keep cX9_keep 2 (Option.some Jvm.ClassFile.FieldType.int) rm_X9_keep_bad g [.ref x, .int q] ([[(x, .inr (12, [.ref a0, .ref a1, .ref a2, .int (nI k), .ref a3, .ref a4, .ref a5, .int (nI ty), .int thr, .int (nI at_), .int (zb bF), .int val, .ref a6, .int (nI tl), .int (zb bC)]))]] : List va_W) 0 0 sz (fun zv gs' => zv = some (.int (0)) ∧ gs' = [[(x, .inr (12, [.ref a0, .ref a1, .ref a2, .int (nI k), .ref a3, .ref a4, .ref a5, .int (nI ty), .int 1, .int (nI at_), .int (zb bF), .int val, .ref a6, .int (nI tl), .int (zb bC)]))]]) := by
  refine zWR.start (by decide) (Nat.le_of_ble_eq_true rfl) ?_
  intro zp ze s zm zbl zmt zc ls A X hr hlocks hinn hl hAe hW hS hA hA0
  have hx := X.1
  have hb := X.2.1
  have hml := X.2.2.1
  have hown := X.2.2.2.1
  have hls := hl.1
  have hl : lv_has ls 2 [(0, .ref x), (1, .int q)] := hl
  refine lv_aload_n hx hb dX9_keep_0 rfl (lv_at hl 0 rfl) ?_
  refine lv_iconst (v := 0) hx hb dX9_keep_1 rfl ?_
  refine z_put X hW hS 0 0 rfl rfl zP_RX9_32_12 rfl rfl (Nat.le_of_ble_eq_true rfl) dX9_keep_2 (fun H locs hW hS => ?_)
  have hW : zW g A ([[(x, .inr (12, [.ref a0, .ref a1, .ref a2, .int (nI k), .ref a3, .ref a4, .ref a5, .int (nI ty), .int 0, .int (nI at_), .int (zb bF), .int val, .ref a6, .int (nI tl), .int (zb bC)]))]] : List va_W) H := hW
  refine lv_iload_n hx hb dX9_keep_5 rfl (lv_at hl 1 rfl) ?_
  refine lv_iconst (v := 0) hx hb dX9_keep_6 rfl ?_
  refine lv_iconst (v := 1) hx hb dX9_keep_7 rfl ?_
  refine zc_ro (zr_S (As := [.int q, .int 0, .int 1]) (rest := []) X (m_X9_in l g q 0 1) zL_RX9_36 trivial hS hA0 hls rfl (Nat.le_of_ble_eq_true rfl) ⟨rfl, rfl, Nat.le_of_ble_eq_true rfl, Nat.le_of_ble_eq_true rfl, (Nat.le_of_ble_eq_true rfl), (Nat.le_of_ble_eq_true rfl)⟩ dX9_keep_8) ?_
  refine zb_ifne (tgt := 20) hx hb dX9_keep_11 (by decide) (fun c11_0 => ?_) (fun c11_0 => ?_)
  · exact absurd (hbad.symm.trans c11_0) (by decide)
  · skip
    refine lv_aload_n hx hb dX9_keep_14 rfl (lv_at hl 0 rfl) ?_
    refine lv_iconst (v := 1) hx hb dX9_keep_15 rfl ?_
    refine zc_wr (gc := [[(x, .inr (12, [.ref a0, .ref a1, .ref a2, .int (nI k), .ref a3, .ref a4, .ref a5, .int (nI ty), .int 0, .int (nI at_), .int (zb bF), .int val, .ref a6, .int (nI tl), .int (zb bC)]))]]) (gr := []) (zr_V (As := [.int 1]) (rest := []) X (m_X9_fails l g x a0 a1 a2 a3 a4 a5 a6 k ty at_ tl 0 val bF bC 1 _) zL_RX9_47 (ci := 12) rfl (hW.H.at 0 0 rfl rfl) (zW.pre (gc := [[(x, .inr (12, [.ref a0, .ref a1, .ref a2, .int (nI k), .ref a3, .ref a4, .ref a5, .int (nI ty), .int 0, .int (nI at_), .int (zb bF), .int val, .ref a6, .int (nI tl), .int (zb bC)]))]]) (gr := []) hW hA0) hS hA0 hls rfl (Nat.le_of_ble_eq_true rfl) ⟨rfl, rfl, Nat.le_of_ble_eq_true rfl, Nat.le_of_ble_eq_true rfl, (Nat.le_of_ble_eq_true rfl), (Nat.le_of_ble_eq_true rfl)⟩ dX9_keep_16) hW hS hA (fun v gc' H locs hpost hW hS => ?_)
    obtain ⟨rfl, rfl⟩ := hpost
    have hW : zW g A ([[(x, .inr (12, [.ref a0, .ref a1, .ref a2, .int (nI k), .ref a3, .ref a4, .ref a5, .int (nI ty), .int 1, .int (nI at_), .int (zb bF), .int val, .ref a6, .int (nI tl), .int (zb bC)]))]] : List va_W) H := hW
    refine W.eq (g2 := F0 zm 19 ls [.int 0]) rfl ?_
    refine zWR.iret X hAe hW hS hr hlocks ?_ (Nat.le_of_ble_eq_true rfl) (Nat.le_of_ble_eq_true rfl) dX9_keep_19
    exact ⟨rfl, rfl⟩

abbrev rm_X9_keep_ok : Room := { frames := 1, cells := 0, slots := 0, locals := 24 }
set_option maxHeartbeats 4000000 in
set_option maxRecDepth 100000 in
theorem m_X9_keep_ok (l : Launch) (g : zG) (x a0 a1 a2 a3 a4 a5 a6 : Nat) (k ty at_ tl : Nat) (thr val : Int32) (bF bC : Bool) (f sl fi : Nat → Int32) (q : Nat) (hq : q < 2) (sz : Nat) : zWR l yX9_keep cX9_keep 2 (Option.some Jvm.ClassFile.FieldType.int) rm_X9_keep_ok g [.ref x, .int (nI q)] ([[(x, .inr (12, [.ref a0, .ref a1, .ref a2, .int (nI k), .ref a3, .ref a4, .ref a5, .int (nI ty), .int thr, .int (nI at_), .int (zb bF), .int val, .ref a6, .int (nI tl), .int (zb bC)]))], [(a0, .inl (g.2.1 0, 89, .inl f))], [(a3, .inl (g.2.1 0, 178, .inl sl))], [(a4, .inl (g.2.1 2, 2, .inl fi))]] : List va_W) 0 0 sz (fun zv gs' => zv = some (.int (f 4)) ∧ gs' = [[(x, .inr (12, [.ref a0, .ref a1, .ref a2, .int (nI k), .ref a3, .ref a4, .ref a5, .int (nI ty), .int 0, .int (nI at_), .int (zb bF), .int val, .ref a6, .int (nI tl), .int (zb bC)]))], [(a0, .inl (g.2.1 0, 89, .inl f))], [(a3, .inl (g.2.1 0, 178, .inl (va_cpy f sl 0 (89 * q) 89)))], [(a4, .inl (g.2.1 2, 2, .inl (upd fi q 1)))]]) := by
  refine zWR.start (by decide) (Nat.le_of_ble_eq_true rfl) ?_
  intro zp ze s zm zbl zmt zc ls A X hr hlocks hinn hl hAe hW hS hA hA0
  have hx := X.1
  have hb := X.2.1
  have hml := X.2.2.1
  have hown := X.2.2.2.1
  have hls := hl.1
  have hl : lv_has ls 2 [(0, .ref x), (1, .int (nI q))] := hl
  refine lv_aload_n hx hb dX9_keep_0 rfl (lv_at hl 0 rfl) ?_
  refine lv_iconst (v := 0) hx hb dX9_keep_1 rfl ?_
  refine z_put X hW hS 0 0 rfl rfl zP_RX9_32_12 rfl rfl (Nat.le_of_ble_eq_true rfl) dX9_keep_2 (fun H locs hW hS => ?_)
  have hW : zW g A ([[(x, .inr (12, [.ref a0, .ref a1, .ref a2, .int (nI k), .ref a3, .ref a4, .ref a5, .int (nI ty), .int 0, .int (nI at_), .int (zb bF), .int val, .ref a6, .int (nI tl), .int (zb bC)]))], [(a0, .inl (g.2.1 0, 89, .inl f))], [(a3, .inl (g.2.1 0, 178, .inl sl))], [(a4, .inl (g.2.1 2, 2, .inl fi))]] : List va_W) H := hW
  refine lv_iload_n hx hb dX9_keep_5 rfl (lv_at hl 1 rfl) ?_
  refine lv_iconst (v := 0) hx hb dX9_keep_6 rfl ?_
  refine lv_iconst (v := 1) hx hb dX9_keep_7 rfl ?_
  refine zc_ro (zr_S (As := [.int (nI q), .int 0, .int 1]) (rest := []) X (m_X9_in l g (nI q) 0 1) zL_RX9_36 trivial hS hA0 hls rfl (Nat.le_of_ble_eq_true rfl) ⟨rfl, rfl, Nat.le_of_ble_eq_true rfl, Nat.le_of_ble_eq_true rfl, (Nat.le_of_ble_eq_true rfl), (Nat.le_of_ble_eq_true rfl)⟩ dX9_keep_8) ?_
  refine zb_ifne (tgt := 20) hx hb dX9_keep_11 (by decide) (fun c11_0 => ?_) (fun c11_0 => ?_)
  · skip
    refine lv_aload_n hx hb dX9_keep_20 rfl (lv_at hl 0 rfl) ?_
    refine z_get X (hW.H.at 0 0 rfl rfl) zF_RX9_7_12 rfl dX9_keep_21 ?_
    refine lv_iconst (v := 0) hx hb dX9_keep_24 rfl ?_
    refine lv_aload_n hx hb dX9_keep_25 rfl (lv_at hl 0 rfl) ?_
    refine z_get X (hW.H.at 0 0 rfl rfl) zF_RX9_19_12 rfl dX9_keep_26 ?_
    refine lv_bipush (v := 89) hx hb dX9_keep_29 (by decide) ?_
    refine lv_iload_n hx hb dX9_keep_31 rfl (lv_at hl 1 rfl) ?_
    refine lv_imul hx hb dX9_keep_32 ?_
    refine z_stk (b := [.int (nI (89 * q)), .ref a3, .int 0, .ref a0]) (by rw [show (89 * (nI q)) = nI (89 * q) from zx_mul rfl rfl]) ?_
    have hW := hW.perm (gs' := ([[(a0, .inl (g.2.1 0, 89, .inl f))], [(a3, .inl (g.2.1 0, 178, .inl sl))], [(x, .inr (12, [.ref a0, .ref a1, .ref a2, .int (nI k), .ref a3, .ref a4, .ref a5, .int (nI ty), .int 0, .int (nI at_), .int (zb bF), .int val, .ref a6, .int (nI tl), .int (zb bC)]))], [(a4, .inl (g.2.1 2, 2, .inl fi))]] : List va_W)) [1, 2, 0, 3] 4 rfl (by decide) rfl
    refine zc_wr (gc := [[(a0, .inl (g.2.1 0, 89, .inl f))], [(a3, .inl (g.2.1 0, 178, .inl sl))]]) (gr := [[(x, .inr (12, [.ref a0, .ref a1, .ref a2, .int (nI k), .ref a3, .ref a4, .ref a5, .int (nI ty), .int 0, .int (nI at_), .int (zb bF), .int val, .ref a6, .int (nI tl), .int (zb bC)]))], [(a4, .inl (g.2.1 2, 2, .inl fi))]]) (zr_S (As := [.ref a0, .int 0, .ref a3, .int (nI (89 * q))]) (rest := []) X (m_X9_copies l g a0 a3 0 (89 * q) 89 178 f sl (by omega) (by omega) (by omega) (by omega) _) zL_RX9_43 (zW.pre (gc := [[(a0, .inl (g.2.1 0, 89, .inl f))], [(a3, .inl (g.2.1 0, 178, .inl sl))]]) (gr := [[(x, .inr (12, [.ref a0, .ref a1, .ref a2, .int (nI k), .ref a3, .ref a4, .ref a5, .int (nI ty), .int 0, .int (nI at_), .int (zb bF), .int val, .ref a6, .int (nI tl), .int (zb bC)]))], [(a4, .inl (g.2.1 2, 2, .inl fi))]]) hW hA0) hS hA0 hls rfl (Nat.le_of_ble_eq_true rfl) ⟨rfl, rfl, Nat.le_of_ble_eq_true rfl, Nat.le_of_ble_eq_true rfl, (Nat.le_of_ble_eq_true rfl), (Nat.le_of_ble_eq_true rfl)⟩ dX9_keep_33) hW hS hA (fun v gc' H locs hpost hW hS => ?_)
    obtain ⟨rfl, rfl⟩ := hpost
    have hW : zW g A ([[(a0, .inl (g.2.1 0, 89, .inl f))], [(a3, .inl (g.2.1 0, 178, .inl (va_cpy f sl 0 (89 * q) 89)))], [(x, .inr (12, [.ref a0, .ref a1, .ref a2, .int (nI k), .ref a3, .ref a4, .ref a5, .int (nI ty), .int 0, .int (nI at_), .int (zb bF), .int val, .ref a6, .int (nI tl), .int (zb bC)]))], [(a4, .inl (g.2.1 2, 2, .inl fi))]] : List va_W) H := hW
    refine W.eq (g2 := F0 zm 36 ls []) rfl ?_
    refine lv_aload_n hx hb dX9_keep_36 rfl (lv_at hl 0 rfl) ?_
    refine z_get X (hW.H.at 2 0 rfl rfl) zF_RX9_22_12 rfl dX9_keep_37 ?_
    refine lv_iload_n hx hb dX9_keep_40 rfl (lv_at hl 1 rfl) ?_
    refine lv_iconst (v := 1) hx hb dX9_keep_41 rfl ?_
    refine z_zast X (j := q) hW hS 3 0 rfl rfl rfl (by omega) (by decide) dX9_keep_42 (fun H locs hW hS => ?_)
    have hW : zW g A ([[(a0, .inl (g.2.1 0, 89, .inl f))], [(a3, .inl (g.2.1 0, 178, .inl (va_cpy f sl 0 (89 * q) 89)))], [(x, .inr (12, [.ref a0, .ref a1, .ref a2, .int (nI k), .ref a3, .ref a4, .ref a5, .int (nI ty), .int 0, .int (nI at_), .int (zb bF), .int val, .ref a6, .int (nI tl), .int (zb bC)]))], [(a4, .inl (g.2.1 2, 2, .inl (upd fi q 1)))]] : List va_W) H := hW
    refine lv_aload_n hx hb dX9_keep_43 rfl (lv_at hl 0 rfl) ?_
    refine z_get X (hW.H.at 2 0 rfl rfl) zF_RX9_7_12 rfl dX9_keep_44 ?_
    refine lv_iconst (v := 4) hx hb dX9_keep_47 rfl ?_
    refine z_iald X (j := 4) (hW.H.at 0 0 rfl rfl) rfl (by omega) (by decide) dX9_keep_48 ?_
    have hW := hW.perm (gs' := ([[(x, .inr (12, [.ref a0, .ref a1, .ref a2, .int (nI k), .ref a3, .ref a4, .ref a5, .int (nI ty), .int 0, .int (nI at_), .int (zb bF), .int val, .ref a6, .int (nI tl), .int (zb bC)]))], [(a0, .inl (g.2.1 0, 89, .inl f))], [(a3, .inl (g.2.1 0, 178, .inl (va_cpy f sl 0 (89 * q) 89)))], [(a4, .inl (g.2.1 2, 2, .inl (upd fi q 1)))]] : List va_W)) [2, 0, 1, 3] 4 rfl (by decide) rfl
    refine zWR.iret X hAe hW hS hr hlocks ?_ (Nat.le_of_ble_eq_true rfl) (Nat.le_of_ble_eq_true rfl) dX9_keep_49
    exact ⟨rfl, rfl⟩
  · exact absurd ((m_in_T (a := 0) (b := 1) rfl rfl rfl (by omega) (by omega) (by decide)).symm.trans c11_0) (by decide)

abbrev rm_X9_goBack_bad1 : Room := { frames := 1, cells := 0, slots := 0, locals := 22 }
set_option maxHeartbeats 4000000 in
set_option maxRecDepth 100000 in
theorem m_X9_goBack_bad1 (l : Launch) (g : zG) (x a0 a1 a2 a3 a4 a5 a6 : Nat) (k ty at_ tl : Nat) (thr val : Int32) (bF bC : Bool) (q : Int32) (hbad : m_in q 0 1 = false) (sz : Nat) : zWR l yX9_goBack cX9_goBack 2 (Option.some Jvm.ClassFile.FieldType.int) rm_X9_goBack_bad1 g [.ref x, .int q] ([[(x, .inr (12, [.ref a0, .ref a1, .ref a2, .int (nI k), .ref a3, .ref a4, .ref a5, .int (nI ty), .int thr, .int (nI at_), .int (zb bF), .int val, .ref a6, .int (nI tl), .int (zb bC)]))]] : List va_W) 0 0 sz (fun zv gs' => zv = some (.int (0)) ∧ gs' = [[(x, .inr (12, [.ref a0, .ref a1, .ref a2, .int (nI k), .ref a3, .ref a4, .ref a5, .int (nI ty), .int 1, .int (nI at_), .int (zb bF), .int val, .ref a6, .int (nI tl), .int (zb bC)]))]]) := by
  refine zWR.start (by decide) (Nat.le_of_ble_eq_true rfl) ?_
  intro zp ze s zm zbl zmt zc ls A X hr hlocks hinn hl hAe hW hS hA hA0
  have hx := X.1
  have hb := X.2.1
  have hml := X.2.2.1
  have hown := X.2.2.2.1
  have hls := hl.1
  have hl : lv_has ls 2 [(0, .ref x), (1, .int q)] := hl
  refine lv_aload_n hx hb dX9_goBack_0 rfl (lv_at hl 0 rfl) ?_
  refine lv_iconst (v := 0) hx hb dX9_goBack_1 rfl ?_
  refine z_put X hW hS 0 0 rfl rfl zP_RX9_32_12 rfl rfl (Nat.le_of_ble_eq_true rfl) dX9_goBack_2 (fun H locs hW hS => ?_)
  have hW : zW g A ([[(x, .inr (12, [.ref a0, .ref a1, .ref a2, .int (nI k), .ref a3, .ref a4, .ref a5, .int (nI ty), .int 0, .int (nI at_), .int (zb bF), .int val, .ref a6, .int (nI tl), .int (zb bC)]))]] : List va_W) H := hW
  refine lv_iload_n hx hb dX9_goBack_5 rfl (lv_at hl 1 rfl) ?_
  refine lv_iconst (v := 0) hx hb dX9_goBack_6 rfl ?_
  refine lv_iconst (v := 1) hx hb dX9_goBack_7 rfl ?_
  refine zc_ro (zr_S (As := [.int q, .int 0, .int 1]) (rest := []) X (m_X9_in l g q 0 1) zL_RX9_36 trivial hS hA0 hls rfl (Nat.le_of_ble_eq_true rfl) ⟨rfl, rfl, Nat.le_of_ble_eq_true rfl, Nat.le_of_ble_eq_true rfl, (Nat.le_of_ble_eq_true rfl), (Nat.le_of_ble_eq_true rfl)⟩ dX9_goBack_8) ?_
  refine zb_ifne (tgt := 20) hx hb dX9_goBack_11 (by decide) (fun c11_0 => ?_) (fun c11_0 => ?_)
  · exact absurd (hbad.symm.trans c11_0) (by decide)
  · skip
    refine lv_aload_n hx hb dX9_goBack_14 rfl (lv_at hl 0 rfl) ?_
    refine lv_iconst (v := 1) hx hb dX9_goBack_15 rfl ?_
    refine zc_wr (gc := [[(x, .inr (12, [.ref a0, .ref a1, .ref a2, .int (nI k), .ref a3, .ref a4, .ref a5, .int (nI ty), .int 0, .int (nI at_), .int (zb bF), .int val, .ref a6, .int (nI tl), .int (zb bC)]))]]) (gr := []) (zr_V (As := [.int 1]) (rest := []) X (m_X9_fails l g x a0 a1 a2 a3 a4 a5 a6 k ty at_ tl 0 val bF bC 1 _) zL_RX9_47 (ci := 12) rfl (hW.H.at 0 0 rfl rfl) (zW.pre (gc := [[(x, .inr (12, [.ref a0, .ref a1, .ref a2, .int (nI k), .ref a3, .ref a4, .ref a5, .int (nI ty), .int 0, .int (nI at_), .int (zb bF), .int val, .ref a6, .int (nI tl), .int (zb bC)]))]]) (gr := []) hW hA0) hS hA0 hls rfl (Nat.le_of_ble_eq_true rfl) ⟨rfl, rfl, Nat.le_of_ble_eq_true rfl, Nat.le_of_ble_eq_true rfl, (Nat.le_of_ble_eq_true rfl), (Nat.le_of_ble_eq_true rfl)⟩ dX9_goBack_16) hW hS hA (fun v gc' H locs hpost hW hS => ?_)
    obtain ⟨rfl, rfl⟩ := hpost
    have hW : zW g A ([[(x, .inr (12, [.ref a0, .ref a1, .ref a2, .int (nI k), .ref a3, .ref a4, .ref a5, .int (nI ty), .int 1, .int (nI at_), .int (zb bF), .int val, .ref a6, .int (nI tl), .int (zb bC)]))]] : List va_W) H := hW
    refine W.eq (g2 := F0 zm 19 ls [.int 0]) rfl ?_
    refine zWR.iret X hAe hW hS hr hlocks ?_ (Nat.le_of_ble_eq_true rfl) (Nat.le_of_ble_eq_true rfl) dX9_goBack_19
    exact ⟨rfl, rfl⟩

abbrev rm_X9_goBack_bad2 : Room := { frames := 1, cells := 0, slots := 0, locals := 22 }
set_option maxHeartbeats 4000000 in
set_option maxRecDepth 100000 in
theorem m_X9_goBack_bad2 (l : Launch) (g : zG) (x a0 a1 a2 a3 a4 a5 a6 : Nat) (k ty at_ tl : Nat) (thr val : Int32) (bF bC : Bool) (fi : Nat → Int32) (q : Nat) (hq : q < 2) (hf0 : fi q = 0) (sz : Nat) : zWR l yX9_goBack cX9_goBack 2 (Option.some Jvm.ClassFile.FieldType.int) rm_X9_goBack_bad2 g [.ref x, .int (nI q)] ([[(x, .inr (12, [.ref a0, .ref a1, .ref a2, .int (nI k), .ref a3, .ref a4, .ref a5, .int (nI ty), .int thr, .int (nI at_), .int (zb bF), .int val, .ref a6, .int (nI tl), .int (zb bC)]))], [(a4, .inl (g.2.1 2, 2, .inl fi))]] : List va_W) 0 0 sz (fun zv gs' => zv = some (.int (0)) ∧ gs' = [[(x, .inr (12, [.ref a0, .ref a1, .ref a2, .int (nI k), .ref a3, .ref a4, .ref a5, .int (nI ty), .int 2, .int (nI at_), .int (zb bF), .int val, .ref a6, .int (nI tl), .int (zb bC)]))], [(a4, .inl (g.2.1 2, 2, .inl fi))]]) := by
  refine zWR.start (by decide) (Nat.le_of_ble_eq_true rfl) ?_
  intro zp ze s zm zbl zmt zc ls A X hr hlocks hinn hl hAe hW hS hA hA0
  have hx := X.1
  have hb := X.2.1
  have hml := X.2.2.1
  have hown := X.2.2.2.1
  have hls := hl.1
  have hl : lv_has ls 2 [(0, .ref x), (1, .int (nI q))] := hl
  refine lv_aload_n hx hb dX9_goBack_0 rfl (lv_at hl 0 rfl) ?_
  refine lv_iconst (v := 0) hx hb dX9_goBack_1 rfl ?_
  refine z_put X hW hS 0 0 rfl rfl zP_RX9_32_12 rfl rfl (Nat.le_of_ble_eq_true rfl) dX9_goBack_2 (fun H locs hW hS => ?_)
  have hW : zW g A ([[(x, .inr (12, [.ref a0, .ref a1, .ref a2, .int (nI k), .ref a3, .ref a4, .ref a5, .int (nI ty), .int 0, .int (nI at_), .int (zb bF), .int val, .ref a6, .int (nI tl), .int (zb bC)]))], [(a4, .inl (g.2.1 2, 2, .inl fi))]] : List va_W) H := hW
  refine lv_iload_n hx hb dX9_goBack_5 rfl (lv_at hl 1 rfl) ?_
  refine lv_iconst (v := 0) hx hb dX9_goBack_6 rfl ?_
  refine lv_iconst (v := 1) hx hb dX9_goBack_7 rfl ?_
  refine zc_ro (zr_S (As := [.int (nI q), .int 0, .int 1]) (rest := []) X (m_X9_in l g (nI q) 0 1) zL_RX9_36 trivial hS hA0 hls rfl (Nat.le_of_ble_eq_true rfl) ⟨rfl, rfl, Nat.le_of_ble_eq_true rfl, Nat.le_of_ble_eq_true rfl, (Nat.le_of_ble_eq_true rfl), (Nat.le_of_ble_eq_true rfl)⟩ dX9_goBack_8) ?_
  refine zb_ifne (tgt := 20) hx hb dX9_goBack_11 (by decide) (fun c11_0 => ?_) (fun c11_0 => ?_)
  · skip
    refine lv_aload_n hx hb dX9_goBack_20 rfl (lv_at hl 0 rfl) ?_
    refine z_get X (hW.H.at 0 0 rfl rfl) zF_RX9_22_12 rfl dX9_goBack_21 ?_
    refine lv_iload_n hx hb dX9_goBack_24 rfl (lv_at hl 1 rfl) ?_
    refine z_zald X (j := q) (hW.H.at 1 0 rfl rfl) rfl (by omega) (by decide) dX9_goBack_25 ?_
    refine lv_if_ne (tgt := 35) hx hb dX9_goBack_26 (by decide) (fun c26_1 => ?_) (fun c26_1 => ?_)
    · exact absurd hf0 c26_1
    · skip
      refine lv_aload_n hx hb dX9_goBack_29 rfl (lv_at hl 0 rfl) ?_
      refine lv_iconst (v := 2) hx hb dX9_goBack_30 rfl ?_
      refine zc_wr (gc := [[(x, .inr (12, [.ref a0, .ref a1, .ref a2, .int (nI k), .ref a3, .ref a4, .ref a5, .int (nI ty), .int 0, .int (nI at_), .int (zb bF), .int val, .ref a6, .int (nI tl), .int (zb bC)]))]]) (gr := [[(a4, .inl (g.2.1 2, 2, .inl fi))]]) (zr_V (As := [.int 2]) (rest := []) X (m_X9_fails l g x a0 a1 a2 a3 a4 a5 a6 k ty at_ tl 0 val bF bC 2 _) zL_RX9_47 (ci := 12) rfl (hW.H.at 0 0 rfl rfl) (zW.pre (gc := [[(x, .inr (12, [.ref a0, .ref a1, .ref a2, .int (nI k), .ref a3, .ref a4, .ref a5, .int (nI ty), .int 0, .int (nI at_), .int (zb bF), .int val, .ref a6, .int (nI tl), .int (zb bC)]))]]) (gr := [[(a4, .inl (g.2.1 2, 2, .inl fi))]]) hW hA0) hS hA0 hls rfl (Nat.le_of_ble_eq_true rfl) ⟨rfl, rfl, Nat.le_of_ble_eq_true rfl, Nat.le_of_ble_eq_true rfl, (Nat.le_of_ble_eq_true rfl), (Nat.le_of_ble_eq_true rfl)⟩ dX9_goBack_31) hW hS hA (fun v gc' H locs hpost hW hS => ?_)
      obtain ⟨rfl, rfl⟩ := hpost
      have hW : zW g A ([[(x, .inr (12, [.ref a0, .ref a1, .ref a2, .int (nI k), .ref a3, .ref a4, .ref a5, .int (nI ty), .int 2, .int (nI at_), .int (zb bF), .int val, .ref a6, .int (nI tl), .int (zb bC)]))], [(a4, .inl (g.2.1 2, 2, .inl fi))]] : List va_W) H := hW
      refine W.eq (g2 := F0 zm 34 ls [.int 0]) rfl ?_
      refine zWR.iret X hAe hW hS hr hlocks ?_ (Nat.le_of_ble_eq_true rfl) (Nat.le_of_ble_eq_true rfl) dX9_goBack_34
      exact ⟨rfl, rfl⟩
  · exact absurd ((m_in_T (a := 0) (b := 1) rfl rfl rfl (by omega) (by omega) (by decide)).symm.trans c11_0) (by decide)

abbrev rm_X9_goBack_ok : Room := { frames := 2, cells := 0, slots := 0, locals := 45 }
set_option maxHeartbeats 4000000 in
set_option maxRecDepth 100000 in
theorem m_X9_goBack_ok (l : Launch) (g : zG) (x a0 a1 a2 a3 a4 a5 a6 : Nat) (k ty at_ tl : Nat) (thr val : Int32) (bF bC : Bool) (f pa sl fi : Nat → Int32) (q : Nat) (hq : q < 2) (hf1 : fi q = 1) (hk : k ≤ 6) (sz : Nat) : zWR l yX9_goBack cX9_goBack 2 (Option.some Jvm.ClassFile.FieldType.int) rm_X9_goBack_ok g [.ref x, .int (nI q)] ([[(x, .inr (12, [.ref a0, .ref a1, .ref a2, .int (nI k), .ref a3, .ref a4, .ref a5, .int (nI ty), .int thr, .int (nI at_), .int (zb bF), .int val, .ref a6, .int (nI tl), .int (zb bC)]))], [(a0, .inl (g.2.1 0, 89, .inl f))], [(a2, .inl (g.2.1 0, 534, .inl pa))], [(a3, .inl (g.2.1 0, 178, .inl sl))], [(a4, .inl (g.2.1 2, 2, .inl fi))]] : List va_W) 0 0 sz (fun zv gs' => zv = some (.int (sl (89 * q + 4))) ∧ gs' = [[(x, .inr (12, [.ref a0, .ref a1, .ref a2, .int (nI (m_sk k + 1)), .ref a3, .ref a4, .ref a5, .int (nI ty), .int 0, .int (nI at_), .int (zb bF), .int val, .ref a6, .int (nI tl), .int (zb bC)]))], [(a0, .inl (g.2.1 0, 89, .inl (va_cpy sl f (89 * q) 0 89)))], [(a2, .inl (g.2.1 0, 534, .inl (m_save f k pa)))], [(a3, .inl (g.2.1 0, 178, .inl sl))], [(a4, .inl (g.2.1 2, 2, .inl fi))]]) := by
  refine zWR.start (by decide) (Nat.le_of_ble_eq_true rfl) ?_
  intro zp ze s zm zbl zmt zc ls A X hr hlocks hinn hl hAe hW hS hA hA0
  have hx := X.1
  have hb := X.2.1
  have hml := X.2.2.1
  have hown := X.2.2.2.1
  have hls := hl.1
  have hl : lv_has ls 2 [(0, .ref x), (1, .int (nI q))] := hl
  refine lv_aload_n hx hb dX9_goBack_0 rfl (lv_at hl 0 rfl) ?_
  refine lv_iconst (v := 0) hx hb dX9_goBack_1 rfl ?_
  refine z_put X hW hS 0 0 rfl rfl zP_RX9_32_12 rfl rfl (Nat.le_of_ble_eq_true rfl) dX9_goBack_2 (fun H locs hW hS => ?_)
  have hW : zW g A ([[(x, .inr (12, [.ref a0, .ref a1, .ref a2, .int (nI k), .ref a3, .ref a4, .ref a5, .int (nI ty), .int 0, .int (nI at_), .int (zb bF), .int val, .ref a6, .int (nI tl), .int (zb bC)]))], [(a0, .inl (g.2.1 0, 89, .inl f))], [(a2, .inl (g.2.1 0, 534, .inl pa))], [(a3, .inl (g.2.1 0, 178, .inl sl))], [(a4, .inl (g.2.1 2, 2, .inl fi))]] : List va_W) H := hW
  refine lv_iload_n hx hb dX9_goBack_5 rfl (lv_at hl 1 rfl) ?_
  refine lv_iconst (v := 0) hx hb dX9_goBack_6 rfl ?_
  refine lv_iconst (v := 1) hx hb dX9_goBack_7 rfl ?_
  refine zc_ro (zr_S (As := [.int (nI q), .int 0, .int 1]) (rest := []) X (m_X9_in l g (nI q) 0 1) zL_RX9_36 trivial hS hA0 hls rfl (Nat.le_of_ble_eq_true rfl) ⟨rfl, rfl, Nat.le_of_ble_eq_true rfl, Nat.le_of_ble_eq_true rfl, (Nat.le_of_ble_eq_true rfl), (Nat.le_of_ble_eq_true rfl)⟩ dX9_goBack_8) ?_
  refine zb_ifne (tgt := 20) hx hb dX9_goBack_11 (by decide) (fun c11_0 => ?_) (fun c11_0 => ?_)
  · skip
    refine lv_aload_n hx hb dX9_goBack_20 rfl (lv_at hl 0 rfl) ?_
    refine z_get X (hW.H.at 0 0 rfl rfl) zF_RX9_22_12 rfl dX9_goBack_21 ?_
    refine lv_iload_n hx hb dX9_goBack_24 rfl (lv_at hl 1 rfl) ?_
    refine z_zald X (j := q) (hW.H.at 4 0 rfl rfl) rfl (by omega) (by decide) dX9_goBack_25 ?_
    refine lv_if_ne (tgt := 35) hx hb dX9_goBack_26 (by decide) (fun c26_1 => ?_) (fun c26_1 => ?_)
    · skip
      refine lv_aload_n hx hb dX9_goBack_35 rfl (lv_at hl 0 rfl) ?_
      refine zc_wr (gc := [[(x, .inr (12, [.ref a0, .ref a1, .ref a2, .int (nI k), .ref a3, .ref a4, .ref a5, .int (nI ty), .int 0, .int (nI at_), .int (zb bF), .int val, .ref a6, .int (nI tl), .int (zb bC)]))], [(a0, .inl (g.2.1 0, 89, .inl f))], [(a2, .inl (g.2.1 0, 534, .inl pa))]]) (gr := [[(a3, .inl (g.2.1 0, 178, .inl sl))], [(a4, .inl (g.2.1 2, 2, .inl fi))]]) (zr_V (As := []) (rest := []) X (m_X9_saves l g x a0 a1 a2 a3 a4 a5 a6 k ty at_ tl 0 val bF bC f pa hk _) zL_RX9_51 (ci := 12) rfl (hW.H.at 0 0 rfl rfl) (zW.pre (gc := [[(x, .inr (12, [.ref a0, .ref a1, .ref a2, .int (nI k), .ref a3, .ref a4, .ref a5, .int (nI ty), .int 0, .int (nI at_), .int (zb bF), .int val, .ref a6, .int (nI tl), .int (zb bC)]))], [(a0, .inl (g.2.1 0, 89, .inl f))], [(a2, .inl (g.2.1 0, 534, .inl pa))]]) (gr := [[(a3, .inl (g.2.1 0, 178, .inl sl))], [(a4, .inl (g.2.1 2, 2, .inl fi))]]) hW hA0) hS hA0 hls rfl (Nat.le_of_ble_eq_true rfl) ⟨rfl, rfl, Nat.le_of_ble_eq_true rfl, Nat.le_of_ble_eq_true rfl, (Nat.le_of_ble_eq_true rfl), (Nat.le_of_ble_eq_true rfl)⟩ dX9_goBack_36) hW hS hA (fun v gc' H locs hpost hW hS => ?_)
      obtain ⟨rfl, rfl⟩ := hpost
      have hW : zW g A ([[(x, .inr (12, [.ref a0, .ref a1, .ref a2, .int (nI (m_sk k + 1)), .ref a3, .ref a4, .ref a5, .int (nI ty), .int 0, .int (nI at_), .int (zb bF), .int val, .ref a6, .int (nI tl), .int (zb bC)]))], [(a0, .inl (g.2.1 0, 89, .inl f))], [(a2, .inl (g.2.1 0, 534, .inl (m_save f k pa)))], [(a3, .inl (g.2.1 0, 178, .inl sl))], [(a4, .inl (g.2.1 2, 2, .inl fi))]] : List va_W) H := hW
      refine W.eq (g2 := F0 zm 39 ls []) rfl ?_
      refine lv_aload_n hx hb dX9_goBack_39 rfl (lv_at hl 0 rfl) ?_
      refine z_get X (hW.H.at 0 0 rfl rfl) zF_RX9_19_12 rfl dX9_goBack_40 ?_
      refine lv_bipush (v := 89) hx hb dX9_goBack_43 (by decide) ?_
      refine lv_iload_n hx hb dX9_goBack_45 rfl (lv_at hl 1 rfl) ?_
      refine lv_imul hx hb dX9_goBack_46 ?_
      refine lv_aload_n hx hb dX9_goBack_47 rfl (lv_at hl 0 rfl) ?_
      refine z_get X (hW.H.at 0 0 rfl rfl) zF_RX9_7_12 rfl dX9_goBack_48 ?_
      refine lv_iconst (v := 0) hx hb dX9_goBack_51 rfl ?_
      refine z_stk (b := [.int 0, .ref a0, .int (nI (89 * q)), .ref a3]) (by rw [show (89 * (nI q)) = nI (89 * q) from zx_mul rfl rfl]) ?_
      have hW := hW.perm (gs' := ([[(a3, .inl (g.2.1 0, 178, .inl sl))], [(a0, .inl (g.2.1 0, 89, .inl f))], [(x, .inr (12, [.ref a0, .ref a1, .ref a2, .int (nI (m_sk k + 1)), .ref a3, .ref a4, .ref a5, .int (nI ty), .int 0, .int (nI at_), .int (zb bF), .int val, .ref a6, .int (nI tl), .int (zb bC)]))], [(a2, .inl (g.2.1 0, 534, .inl (m_save f k pa)))], [(a4, .inl (g.2.1 2, 2, .inl fi))]] : List va_W)) [3, 1, 0, 2, 4] 5 rfl (by decide) rfl
      refine zc_wr (gc := [[(a3, .inl (g.2.1 0, 178, .inl sl))], [(a0, .inl (g.2.1 0, 89, .inl f))]]) (gr := [[(x, .inr (12, [.ref a0, .ref a1, .ref a2, .int (nI (m_sk k + 1)), .ref a3, .ref a4, .ref a5, .int (nI ty), .int 0, .int (nI at_), .int (zb bF), .int val, .ref a6, .int (nI tl), .int (zb bC)]))], [(a2, .inl (g.2.1 0, 534, .inl (m_save f k pa)))], [(a4, .inl (g.2.1 2, 2, .inl fi))]]) (zr_S (As := [.ref a3, .int (nI (89 * q)), .ref a0, .int 0]) (rest := []) X (m_X9_copies l g a3 a0 (89 * q) 0 178 89 sl f (by omega) (by omega) (by omega) (by omega) _) zL_RX9_43 (zW.pre (gc := [[(a3, .inl (g.2.1 0, 178, .inl sl))], [(a0, .inl (g.2.1 0, 89, .inl f))]]) (gr := [[(x, .inr (12, [.ref a0, .ref a1, .ref a2, .int (nI (m_sk k + 1)), .ref a3, .ref a4, .ref a5, .int (nI ty), .int 0, .int (nI at_), .int (zb bF), .int val, .ref a6, .int (nI tl), .int (zb bC)]))], [(a2, .inl (g.2.1 0, 534, .inl (m_save f k pa)))], [(a4, .inl (g.2.1 2, 2, .inl fi))]]) hW hA0) hS hA0 hls rfl (Nat.le_of_ble_eq_true rfl) ⟨rfl, rfl, Nat.le_of_ble_eq_true rfl, Nat.le_of_ble_eq_true rfl, (Nat.le_of_ble_eq_true rfl), (Nat.le_of_ble_eq_true rfl)⟩ dX9_goBack_52) hW hS hA (fun v gc' H locs hpost hW hS => ?_)
      obtain ⟨rfl, rfl⟩ := hpost
      have hW : zW g A ([[(a3, .inl (g.2.1 0, 178, .inl sl))], [(a0, .inl (g.2.1 0, 89, .inl (va_cpy sl f (89 * q) 0 89)))], [(x, .inr (12, [.ref a0, .ref a1, .ref a2, .int (nI (m_sk k + 1)), .ref a3, .ref a4, .ref a5, .int (nI ty), .int 0, .int (nI at_), .int (zb bF), .int val, .ref a6, .int (nI tl), .int (zb bC)]))], [(a2, .inl (g.2.1 0, 534, .inl (m_save f k pa)))], [(a4, .inl (g.2.1 2, 2, .inl fi))]] : List va_W) H := hW
      refine W.eq (g2 := F0 zm 55 ls []) rfl ?_
      refine lv_aload_n hx hb dX9_goBack_55 rfl (lv_at hl 0 rfl) ?_
      refine z_get X (hW.H.at 2 0 rfl rfl) zF_RX9_7_12 rfl dX9_goBack_56 ?_
      refine lv_iconst (v := 4) hx hb dX9_goBack_59 rfl ?_
      refine z_iald X (j := 4) (hW.H.at 1 0 rfl rfl) rfl (by omega) (by decide) dX9_goBack_60 ?_
      have hW := hW.perm (gs' := ([[(x, .inr (12, [.ref a0, .ref a1, .ref a2, .int (nI (m_sk k + 1)), .ref a3, .ref a4, .ref a5, .int (nI ty), .int 0, .int (nI at_), .int (zb bF), .int val, .ref a6, .int (nI tl), .int (zb bC)]))], [(a0, .inl (g.2.1 0, 89, .inl (va_cpy sl f (89 * q) 0 89)))], [(a2, .inl (g.2.1 0, 534, .inl (m_save f k pa)))], [(a3, .inl (g.2.1 0, 178, .inl sl))], [(a4, .inl (g.2.1 2, 2, .inl fi))]] : List va_W)) [2, 1, 3, 0, 4] 5 rfl (by decide) rfl
      refine zWR.iret X hAe hW hS hr hlocks ?_ (Nat.le_of_ble_eq_true rfl) (Nat.le_of_ble_eq_true rfl) dX9_goBack_61
      exact ⟨rfl, rfl⟩
    · exact absurd (hf1.symm.trans c26_1) (by decide)
  · exact absurd ((m_in_T (a := 0) (b := 1) rfl rfl rfl (by omega) (by omega) (by decide)).symm.trans c11_0) (by decide)
