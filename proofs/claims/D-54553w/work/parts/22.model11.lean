set_option maxRecDepth 100000
theorem zF_RX9_13_12 : zF RX9 13 12 1 := ⟨RX9, TX9, 15, "SpoilMeadowsModel", rfl, in_X9, by decide, .inl q1603, .inl rfl⟩
theorem zL_RX9_219 : zLV RX9 219 RX9 yX9_byPassing cX9_byPassing 4 (Option.some Jvm.ClassFile.FieldType.int) 3 := ⟨.inl q1915, q1917, qs69, q103, rfl, q1918, ⟨by decide +kernel, by decide +kernel, by decide +kernel⟩⟩
theorem zF_RX9_104_12 : zF RX9 104 12 14 := ⟨RX9, TX9, 15, "SpoilMeadowsModel", rfl, in_X9, by decide, .inl q1616, .inl rfl⟩
theorem zL_RX9_223 : zLV RX9 223 RX9 yX9_clears cX9_clears 2 (Option.some Jvm.ClassFile.FieldType.int) 0 := ⟨.inl q1927, q1929, qs70, q103, rfl, q1930, ⟨by decide +kernel, by decide +kernel, by decide +kernel⟩⟩
theorem zL_RX9_227 : zLV RX9 227 RX9 yX9_most cX9_most 6 (Option.some Jvm.ClassFile.FieldType.int) 1 := ⟨.inl q1935, q1937, qs71, q103, rfl, q1938, ⟨by decide +kernel, by decide +kernel, by decide +kernel⟩⟩
theorem zL_RX9_230 : zLV RX9 230 RX9 yX9_share cX9_share 2 (Option.some Jvm.ClassFile.FieldType.double) 0 := ⟨.inl q1943, q1945, qs72, q103, rfl, q1946, ⟨by decide +kernel, by decide +kernel, by decide +kernel⟩⟩
theorem zL_RJ23_122 : zLS RJ23 122 yJ23_isNaN cJ23_isNaN 2 (Option.some Jvm.ClassFile.FieldType.boolean) 1 := ⟨.inl q1242, q1243, q111, q1244, ⟨by decide +kernel, by decide +kernel, by decide +kernel⟩⟩
abbrev rm_X9_byPassing : Room := { frames := 7, cells := 0, slots := 0, locals := 160 }
set_option maxHeartbeats 4000000 in
set_option maxRecDepth 100000 in
theorem m_X9_byPassing (l : Launch) (g : zG) (x a0 a1 a2 a3 a4 a5 a6 : Nat) (k ty at_ tl : Nat) (thr val : Int32) (bF bC : Bool) (f t : Nat → Int32) (rr d w n : Nat) (hrr : rr < 6) (hd : d ≤ 60) (hw : w < 5) (hn : n ≤ 4) (h6 : f 6 = nI n) (hla : m_allOk f n) (sz : Nat) : zWR l yX9_byPassing cX9_byPassing 4 (Option.some Jvm.ClassFile.FieldType.int) rm_X9_byPassing g [.ref x, .int (nI rr), .int (nI d), .int (nI w)] ([[(x, .inr (12, [.ref a0, .ref a1, .ref a2, .int (nI k), .ref a3, .ref a4, .ref a5, .int (nI ty), .int thr, .int (nI at_), .int (zb bF), .int val, .ref a6, .int (nI tl), .int (zb bC)]))], [(a0, .inl (g.2.1 0, 89, .inl f))], [(a1, .inl (g.2.1 0, 89, .inl t))]] : List va_W) 0 0 sz (fun zv gs' => ∃ (bc : Bool) (t' : Nat → Int32), zv = some (.int (m_by f n rr d w)) ∧ gs' = [[(x, .inr (12, [.ref a0, .ref a1, .ref a2, .int (nI k), .ref a3, .ref a4, .ref a5, .int (nI ty), .int thr, .int (nI at_), .int (zb bF), .int val, .ref a6, .int (nI tl), .int (zb bc)]))], [(a0, .inl (g.2.1 0, 89, .inl f))], [(a1, .inl (g.2.1 0, 89, .inl t'))]]) := by
  refine zWR.start (by decide) (Nat.le_of_ble_eq_true rfl) ?_
  intro zp ze s zm zbl zmt zc ls A X hr hlocks hinn hl hAe hW hS hA hA0
  have hx := X.1
  have hb := X.2.1
  have hml := X.2.2.1
  have hown := X.2.2.2.1
  have hls := hl.1
  have hl : lv_has ls 4 [(0, .ref x), (1, .int (nI rr)), (2, .int (nI d)), (3, .int (nI w))] := hl
  refine lv_aload_n hx hb dX9_byPassing_0 rfl (lv_at hl 0 rfl) ?_
  refine z_get X (hW.H.at 0 0 rfl rfl) zF_RX9_7_12 rfl dX9_byPassing_1 ?_
  refine lv_iconst (v := 0) hx hb dX9_byPassing_4 rfl ?_
  refine lv_aload_n hx hb dX9_byPassing_5 rfl (lv_at hl 0 rfl) ?_
  refine z_get X (hW.H.at 0 0 rfl rfl) zF_RX9_13_12 rfl dX9_byPassing_6 ?_
  refine lv_iconst (v := 0) hx hb dX9_byPassing_9 rfl ?_
  have hW := hW.perm (gs' := ([[(a0, .inl (g.2.1 0, 89, .inl f))], [(a1, .inl (g.2.1 0, 89, .inl t))], [(x, .inr (12, [.ref a0, .ref a1, .ref a2, .int (nI k), .ref a3, .ref a4, .ref a5, .int (nI ty), .int thr, .int (nI at_), .int (zb bF), .int val, .ref a6, .int (nI tl), .int (zb bC)]))]] : List va_W)) [1, 2, 0] 3 rfl (by decide) rfl
  refine zc_wr (gc := [[(a0, .inl (g.2.1 0, 89, .inl f))], [(a1, .inl (g.2.1 0, 89, .inl t))]]) (gr := [[(x, .inr (12, [.ref a0, .ref a1, .ref a2, .int (nI k), .ref a3, .ref a4, .ref a5, .int (nI ty), .int thr, .int (nI at_), .int (zb bF), .int val, .ref a6, .int (nI tl), .int (zb bC)]))]]) (zr_S (As := [.ref a0, .int 0, .ref a1, .int 0]) (rest := []) X (m_X9_copies l g a0 a1 0 0 89 89 f t (by omega) (by omega) (by omega) (by omega) _) zL_RX9_43 (zW.pre (gc := [[(a0, .inl (g.2.1 0, 89, .inl f))], [(a1, .inl (g.2.1 0, 89, .inl t))]]) (gr := [[(x, .inr (12, [.ref a0, .ref a1, .ref a2, .int (nI k), .ref a3, .ref a4, .ref a5, .int (nI ty), .int thr, .int (nI at_), .int (zb bF), .int val, .ref a6, .int (nI tl), .int (zb bC)]))]]) hW hA0) hS hA0 hls rfl (Nat.le_of_ble_eq_true rfl) ⟨rfl, rfl, Nat.le_of_ble_eq_true rfl, Nat.le_of_ble_eq_true rfl, (Nat.le_of_ble_eq_true rfl), (Nat.le_of_ble_eq_true rfl)⟩ dX9_byPassing_10) hW hS hA (fun v gc' H locs hpost hW hS => ?_)
  obtain ⟨rfl, rfl⟩ := hpost
  have hW : zW g A ([[(a0, .inl (g.2.1 0, 89, .inl f))], [(a1, .inl (g.2.1 0, 89, .inl (va_cpy f t 0 0 89)))], [(x, .inr (12, [.ref a0, .ref a1, .ref a2, .int (nI k), .ref a3, .ref a4, .ref a5, .int (nI ty), .int thr, .int (nI at_), .int (zb bF), .int val, .ref a6, .int (nI tl), .int (zb bC)]))]] : List va_W) H := hW
  refine W.eq (g2 := F0 zm 13 ls []) rfl ?_
  have hW := zW.arr hW 1 0 (f' := f) rfl rfl (fun k hk => by unfold va_cpy; rw [if_pos (by omega)]; congr 1; omega)
  have hW : zW g A ([[(a0, .inl (g.2.1 0, 89, .inl f))], [(a1, .inl (g.2.1 0, 89, .inl f))], [(x, .inr (12, [.ref a0, .ref a1, .ref a2, .int (nI k), .ref a3, .ref a4, .ref a5, .int (nI ty), .int thr, .int (nI at_), .int (zb bF), .int val, .ref a6, .int (nI tl), .int (zb bC)]))]] : List va_W) H := hW
  refine lv_aload_n hx hb dX9_byPassing_13 rfl (lv_at hl 0 rfl) ?_
  refine z_get X (hW.H.at 2 0 rfl rfl) zF_RX9_13_12 rfl dX9_byPassing_14 ?_
  refine lv_iconst (v := 5) hx hb dX9_byPassing_17 rfl ?_
  refine lv_iload_n hx hb dX9_byPassing_18 rfl (lv_at hl 1 rfl) ?_
  refine z_iast X (j := 5) hW hS 1 0 rfl rfl rfl (by omega) (by decide) dX9_byPassing_19 (fun H locs hW hS => ?_)
  have hW : zW g A ([[(a0, .inl (g.2.1 0, 89, .inl f))], [(a1, .inl (g.2.1 0, 89, .inl (upd f 5 (nI rr))))], [(x, .inr (12, [.ref a0, .ref a1, .ref a2, .int (nI k), .ref a3, .ref a4, .ref a5, .int (nI ty), .int thr, .int (nI at_), .int (zb bF), .int val, .ref a6, .int (nI tl), .int (zb bC)]))]] : List va_W) H := hW
  refine lv_aload_n hx hb dX9_byPassing_20 rfl (lv_at hl 0 rfl) ?_
  refine lv_aload_n hx hb dX9_byPassing_21 rfl (lv_at hl 0 rfl) ?_
  refine z_get X (hW.H.at 2 0 rfl rfl) zF_RX9_13_12 rfl dX9_byPassing_22 ?_
  refine lv_iload_n hx hb dX9_byPassing_25 rfl (lv_at hl 2 rfl) ?_
  have hW := hW.perm (gs' := ([[(x, .inr (12, [.ref a0, .ref a1, .ref a2, .int (nI k), .ref a3, .ref a4, .ref a5, .int (nI ty), .int thr, .int (nI at_), .int (zb bF), .int val, .ref a6, .int (nI tl), .int (zb bC)]))], [(a1, .inl (g.2.1 0, 89, .inl (upd f 5 (nI rr))))], [(a0, .inl (g.2.1 0, 89, .inl f))]] : List va_W)) [2, 1, 0] 3 rfl (by decide) rfl
  refine zc_wr (gc := [[(x, .inr (12, [.ref a0, .ref a1, .ref a2, .int (nI k), .ref a3, .ref a4, .ref a5, .int (nI ty), .int thr, .int (nI at_), .int (zb bF), .int val, .ref a6, .int (nI tl), .int (zb bC)]))], [(a1, .inl (g.2.1 0, 89, .inl (upd f 5 (nI rr))))]]) (gr := [[(a0, .inl (g.2.1 0, 89, .inl f))]]) (zr_V (As := [.ref a1, .int (nI d)]) (rest := []) X (m_X9_days l g x a0 a1 a2 a3 a4 a5 a6 k ty at_ tl thr val bF bC a1 (upd f 5 (nI rr)) d n rr (by omega) (by omega) (by rw [upd_n (by omega)]; exact h6) (by omega) upd_s (fun j hj => hla rr hrr j (by omega)) _) zL_RX9_144 (ci := 12) rfl (hW.H.at 0 0 rfl rfl) (zW.pre (gc := [[(x, .inr (12, [.ref a0, .ref a1, .ref a2, .int (nI k), .ref a3, .ref a4, .ref a5, .int (nI ty), .int thr, .int (nI at_), .int (zb bF), .int val, .ref a6, .int (nI tl), .int (zb bC)]))], [(a1, .inl (g.2.1 0, 89, .inl (upd f 5 (nI rr))))]]) (gr := [[(a0, .inl (g.2.1 0, 89, .inl f))]]) hW hA0) hS hA0 hls rfl (Nat.le_of_ble_eq_true rfl) ⟨rfl, rfl, Nat.le_of_ble_eq_true rfl, Nat.le_of_ble_eq_true rfl, (Nat.le_of_ble_eq_true rfl), (Nat.le_of_ble_eq_true rfl)⟩ dX9_byPassing_26) hW hS hA (fun v gc' H locs hpost hW hS => ?_)
  obtain ⟨bc, rfl, rfl⟩ := hpost
  have hW : zW g A ([[(x, .inr (12, [.ref a0, .ref a1, .ref a2, .int (nI k), .ref a3, .ref a4, .ref a5, .int (nI ty), .int thr, .int (nI at_), .int (zb bF), .int val, .ref a6, .int (nI tl), .int (zb bc)]))], [(a1, .inl (g.2.1 0, 89, .inl (m_days (upd f 5 (nI rr)) n rr d)))], [(a0, .inl (g.2.1 0, 89, .inl f))]] : List va_W) H := hW
  refine W.eq (g2 := F0 zm 29 ls []) rfl ?_
  refine lv_iload_n hx hb dX9_byPassing_29 rfl (lv_at hl 3 rfl) ?_
  by_cases sw30_0 : nI w = 0
  · refine z_stk (b := [.int 0]) (by rw [sw30_0]) ?_
    refine lv_tableIn (off := 30) (tgt := 60) hx hb dX9_byPassing_30 (by decide) (by decide) rfl (by decide) ?_
    have ksw30 : w = 0 := (zn_eq rfl rfl (by omega) (by omega)).mp sw30_0
    refine lv_aload_n hx hb dX9_byPassing_60 rfl (lv_at hl 0 rfl) ?_
    refine z_get X (hW.H.at 0 0 rfl rfl) zF_RX9_13_12 rfl dX9_byPassing_61 ?_
    refine zc_ro (zr_S (As := [.ref a1]) (rest := []) X (m_X9_raised l g a1 (m_days (upd f 5 (nI rr)) n rr d)) zL_RX9_203 (zH.cons (va_P.one (hW.H.at 1 0 rfl rfl)) zH.nil) hS hA0 hls rfl (Nat.le_of_ble_eq_true rfl) ⟨rfl, rfl, Nat.le_of_ble_eq_true rfl, Nat.le_of_ble_eq_true rfl, (Nat.le_of_ble_eq_true rfl), (Nat.le_of_ble_eq_true rfl)⟩ dX9_byPassing_64) ?_
    refine lv_aload_n hx hb dX9_byPassing_67 rfl (lv_at hl 0 rfl) ?_
    refine z_get X (hW.H.at 0 0 rfl rfl) zF_RX9_7_12 rfl dX9_byPassing_68 ?_
    refine zc_ro (zr_S (As := [.ref a0]) (rest := [.int (m_sumR (m_days (upd f 5 (nI rr)) n rr d) 1 6)]) X (m_X9_raised l g a0 f) zL_RX9_203 (zH.cons (va_P.one (hW.H.at 2 0 rfl rfl)) zH.nil) hS hA0 hls rfl (Nat.le_of_ble_eq_true rfl) ⟨rfl, rfl, Nat.le_of_ble_eq_true rfl, Nat.le_of_ble_eq_true rfl, (Nat.le_of_ble_eq_true rfl), (Nat.le_of_ble_eq_true rfl)⟩ dX9_byPassing_71) ?_
    refine lv_isub hx hb dX9_byPassing_74 ?_
    have hW := hW.perm (gs' := ([[(x, .inr (12, [.ref a0, .ref a1, .ref a2, .int (nI k), .ref a3, .ref a4, .ref a5, .int (nI ty), .int thr, .int (nI at_), .int (zb bF), .int val, .ref a6, .int (nI tl), .int (zb bc)]))], [(a0, .inl (g.2.1 0, 89, .inl f))], [(a1, .inl (g.2.1 0, 89, .inl (m_days (upd f 5 (nI rr)) n rr d)))]] : List va_W)) [0, 2, 1] 3 rfl (by decide) rfl
    refine zWR.iret X hAe hW hS hr hlocks ?_ (Nat.le_of_ble_eq_true rfl) (Nat.le_of_ble_eq_true rfl) dX9_byPassing_75
    refine ⟨_, _, ?_, rfl⟩
    rw [ksw30]
    rfl
  by_cases sw30_1 : nI w = 1
  · refine z_stk (b := [.int 1]) (by rw [sw30_1]) ?_
    refine lv_tableIn (off := 46) (tgt := 76) hx hb dX9_byPassing_30 (by decide) (by decide) rfl (by decide) ?_
    have ksw30 : w = 1 := (zn_eq rfl rfl (by omega) (by omega)).mp sw30_1
    refine lv_aload_n hx hb dX9_byPassing_76 rfl (lv_at hl 0 rfl) ?_
    refine z_get X (hW.H.at 0 0 rfl rfl) zF_RX9_13_12 rfl dX9_byPassing_77 ?_
    refine zc_ro (zr_S (As := [.ref a1]) (rest := []) X (m_X9_onMeadows l g a1 (m_days (upd f 5 (nI rr)) n rr d)) zL_RX9_141 (zH.cons (va_P.one (hW.H.at 1 0 rfl rfl)) zH.nil) hS hA0 hls rfl (Nat.le_of_ble_eq_true rfl) ⟨rfl, rfl, Nat.le_of_ble_eq_true rfl, Nat.le_of_ble_eq_true rfl, (Nat.le_of_ble_eq_true rfl), (Nat.le_of_ble_eq_true rfl)⟩ dX9_byPassing_80) ?_
    refine lv_aload_n hx hb dX9_byPassing_83 rfl (lv_at hl 0 rfl) ?_
    refine z_get X (hW.H.at 0 0 rfl rfl) zF_RX9_7_12 rfl dX9_byPassing_84 ?_
    refine zc_ro (zr_S (As := [.ref a0]) (rest := [.int (m_sumM (m_days (upd f 5 (nI rr)) n rr d) 1 5)]) X (m_X9_onMeadows l g a0 f) zL_RX9_141 (zH.cons (va_P.one (hW.H.at 2 0 rfl rfl)) zH.nil) hS hA0 hls rfl (Nat.le_of_ble_eq_true rfl) ⟨rfl, rfl, Nat.le_of_ble_eq_true rfl, Nat.le_of_ble_eq_true rfl, (Nat.le_of_ble_eq_true rfl), (Nat.le_of_ble_eq_true rfl)⟩ dX9_byPassing_87) ?_
    refine lv_isub hx hb dX9_byPassing_90 ?_
    have hW := hW.perm (gs' := ([[(x, .inr (12, [.ref a0, .ref a1, .ref a2, .int (nI k), .ref a3, .ref a4, .ref a5, .int (nI ty), .int thr, .int (nI at_), .int (zb bF), .int val, .ref a6, .int (nI tl), .int (zb bc)]))], [(a0, .inl (g.2.1 0, 89, .inl f))], [(a1, .inl (g.2.1 0, 89, .inl (m_days (upd f 5 (nI rr)) n rr d)))]] : List va_W)) [0, 2, 1] 3 rfl (by decide) rfl
    refine zWR.iret X hAe hW hS hr hlocks ?_ (Nat.le_of_ble_eq_true rfl) (Nat.le_of_ble_eq_true rfl) dX9_byPassing_91
    refine ⟨_, _, ?_, rfl⟩
    rw [ksw30]
    rfl
  by_cases sw30_2 : nI w = 2
  · refine z_stk (b := [.int 2]) (by rw [sw30_2]) ?_
    refine lv_tableIn (off := 62) (tgt := 92) hx hb dX9_byPassing_30 (by decide) (by decide) rfl (by decide) ?_
    have ksw30 : w = 2 := (zn_eq rfl rfl (by omega) (by omega)).mp sw30_2
    refine lv_aload_n hx hb dX9_byPassing_92 rfl (lv_at hl 0 rfl) ?_
    refine z_get X (hW.H.at 0 0 rfl rfl) zF_RX9_13_12 rfl dX9_byPassing_93 ?_
    refine lv_iconst (v := 2) hx hb dX9_byPassing_96 rfl ?_
    refine zc_ro (zr_S (As := [.ref a1, .int 2]) (rest := []) X (m_X9_ofBarges l g a1 (m_days (upd f 5 (nI rr)) n rr d) 2 n (by omega) (by omega) (by rw [m_days_lo (by omega) (by omega), upd_n (by omega)]; exact h6)) zL_RX9_206 (zH.cons (va_P.one (hW.H.at 1 0 rfl rfl)) zH.nil) hS hA0 hls rfl (Nat.le_of_ble_eq_true rfl) ⟨rfl, rfl, Nat.le_of_ble_eq_true rfl, Nat.le_of_ble_eq_true rfl, (Nat.le_of_ble_eq_true rfl), (Nat.le_of_ble_eq_true rfl)⟩ dX9_byPassing_97) ?_
    have hW := hW.perm (gs' := ([[(x, .inr (12, [.ref a0, .ref a1, .ref a2, .int (nI k), .ref a3, .ref a4, .ref a5, .int (nI ty), .int thr, .int (nI at_), .int (zb bF), .int val, .ref a6, .int (nI tl), .int (zb bc)]))], [(a0, .inl (g.2.1 0, 89, .inl f))], [(a1, .inl (g.2.1 0, 89, .inl (m_days (upd f 5 (nI rr)) n rr d)))]] : List va_W)) [0, 2, 1] 3 rfl (by decide) rfl
    refine zWR.iret X hAe hW hS hr hlocks ?_ (Nat.le_of_ble_eq_true rfl) (Nat.le_of_ble_eq_true rfl) dX9_byPassing_100
    refine ⟨_, _, ?_, rfl⟩
    rw [ksw30]
    rfl
  by_cases sw30_3 : nI w = 3
  · refine z_stk (b := [.int 3]) (by rw [sw30_3]) ?_
    refine lv_tableIn (off := 71) (tgt := 101) hx hb dX9_byPassing_30 (by decide) (by decide) rfl (by decide) ?_
    have ksw30 : w = 3 := (zn_eq rfl rfl (by omega) (by omega)).mp sw30_3
    refine lv_aload_n hx hb dX9_byPassing_101 rfl (lv_at hl 0 rfl) ?_
    refine z_get X (hW.H.at 0 0 rfl rfl) zF_RX9_13_12 rfl dX9_byPassing_102 ?_
    refine lv_bipush (v := 7) hx hb dX9_byPassing_105 (by decide) ?_
    refine z_iald X (j := 7) (hW.H.at 1 0 rfl rfl) rfl (by omega) (by decide) dX9_byPassing_107 ?_
    refine lv_aload_n hx hb dX9_byPassing_108 rfl (lv_at hl 0 rfl) ?_
    refine z_get X (hW.H.at 0 0 rfl rfl) zF_RX9_7_12 rfl dX9_byPassing_109 ?_
    refine lv_bipush (v := 7) hx hb dX9_byPassing_112 (by decide) ?_
    refine z_iald X (j := 7) (hW.H.at 2 0 rfl rfl) rfl (by omega) (by decide) dX9_byPassing_114 ?_
    refine lv_isub hx hb dX9_byPassing_115 ?_
    have hW := hW.perm (gs' := ([[(x, .inr (12, [.ref a0, .ref a1, .ref a2, .int (nI k), .ref a3, .ref a4, .ref a5, .int (nI ty), .int thr, .int (nI at_), .int (zb bF), .int val, .ref a6, .int (nI tl), .int (zb bc)]))], [(a0, .inl (g.2.1 0, 89, .inl f))], [(a1, .inl (g.2.1 0, 89, .inl (m_days (upd f 5 (nI rr)) n rr d)))]] : List va_W)) [0, 2, 1] 3 rfl (by decide) rfl
    refine zWR.iret X hAe hW hS hr hlocks ?_ (Nat.le_of_ble_eq_true rfl) (Nat.le_of_ble_eq_true rfl) dX9_byPassing_116
    refine ⟨_, _, ?_, rfl⟩
    rw [ksw30]
    rfl
  have ksw30_0 : ¬ w = 0 := fun h => sw30_0 (by rw [show (nI w) = nI w from rfl, h]; rfl)
  have ksw30_1 : ¬ w = 1 := fun h => sw30_1 (by rw [show (nI w) = nI w from rfl, h]; rfl)
  have ksw30_2 : ¬ w = 2 := fun h => sw30_2 (by rw [show (nI w) = nI w from rfl, h]; rfl)
  have ksw30_3 : ¬ w = 3 := fun h => sw30_3 (by rw [show (nI w) = nI w from rfl, h]; rfl)
  refine lv_tableOut (tgt := 117) hx hb dX9_byPassing_30 (Or.inr (by rw [show (nI w) = nI w from rfl, nI_toInt (show w < 2 ^ 31 by omega)]; omega)) (by decide) ?_
  refine lv_aload_n hx hb dX9_byPassing_117 rfl (lv_at hl 0 rfl) ?_
  refine z_get X (hW.H.at 0 0 rfl rfl) zF_RX9_13_12 rfl dX9_byPassing_118 ?_
  refine zc_ro (zr_S (As := [.ref a1]) (rest := []) X (m_X9_allSilt l g a1 (m_days (upd f 5 (nI rr)) n rr d)) zL_RX9_209 (zH.cons (va_P.one (hW.H.at 1 0 rfl rfl)) zH.nil) hS hA0 hls rfl (Nat.le_of_ble_eq_true rfl) ⟨rfl, rfl, Nat.le_of_ble_eq_true rfl, Nat.le_of_ble_eq_true rfl, (Nat.le_of_ble_eq_true rfl), (Nat.le_of_ble_eq_true rfl)⟩ dX9_byPassing_121) ?_
  have hW := hW.perm (gs' := ([[(x, .inr (12, [.ref a0, .ref a1, .ref a2, .int (nI k), .ref a3, .ref a4, .ref a5, .int (nI ty), .int thr, .int (nI at_), .int (zb bF), .int val, .ref a6, .int (nI tl), .int (zb bc)]))], [(a0, .inl (g.2.1 0, 89, .inl f))], [(a1, .inl (g.2.1 0, 89, .inl (m_days (upd f 5 (nI rr)) n rr d)))]] : List va_W)) [0, 2, 1] 3 rfl (by decide) rfl
  refine zWR.iret X hAe hW hS hr hlocks ?_ (Nat.le_of_ble_eq_true rfl) (Nat.le_of_ble_eq_true rfl) dX9_byPassing_124
  refine ⟨_, _, ?_, rfl⟩
  rw [show w = 4 by omega]
  rfl

abbrev rm_X9_ifPassed_bad : Room := { frames := 1, cells := 0, slots := 0, locals := 22 }
set_option maxHeartbeats 4000000 in
set_option maxRecDepth 100000 in
theorem m_X9_ifPassed_bad (l : Launch) (g : zG) (x a0 a1 a2 a3 a4 a5 a6 : Nat) (k ty at_ tl : Nat) (thr val : Int32) (bF bC : Bool) (q w : Int32) (hbad : (m_in q 1 60 && m_in w 0 4) = false) (sz : Nat) : zWR l yX9_ifPassed cX9_ifPassed 3 (Option.some Jvm.ClassFile.FieldType.int) rm_X9_ifPassed_bad g [.ref x, .int q, .int w] ([[(x, .inr (12, [.ref a0, .ref a1, .ref a2, .int (nI k), .ref a3, .ref a4, .ref a5, .int (nI ty), .int thr, .int (nI at_), .int (zb bF), .int val, .ref a6, .int (nI tl), .int (zb bC)]))]] : List va_W) 0 0 sz (fun zv gs' => zv = some (.int (0)) ∧ gs' = [[(x, .inr (12, [.ref a0, .ref a1, .ref a2, .int (nI k), .ref a3, .ref a4, .ref a5, .int (nI ty), .int 1, .int (nI at_), .int (zb bF), .int val, .ref a6, .int (nI tl), .int (zb bC)]))]]) := by
  refine zWR.start (by decide) (Nat.le_of_ble_eq_true rfl) ?_
  intro zp ze s zm zbl zmt zc ls A X hr hlocks hinn hl hAe hW hS hA hA0
  have hx := X.1
  have hb := X.2.1
  have hml := X.2.2.1
  have hown := X.2.2.2.1
  have hls := hl.1
  have hl : lv_has ls 3 [(0, .ref x), (1, .int q), (2, .int w)] := hl
  refine lv_aload_n hx hb dX9_ifPassed_0 rfl (lv_at hl 0 rfl) ?_
  refine lv_iconst (v := 0) hx hb dX9_ifPassed_1 rfl ?_
  refine z_put X hW hS 0 0 rfl rfl zP_RX9_32_12 rfl rfl (Nat.le_of_ble_eq_true rfl) dX9_ifPassed_2 (fun H locs hW hS => ?_)
  have hW : zW g A ([[(x, .inr (12, [.ref a0, .ref a1, .ref a2, .int (nI k), .ref a3, .ref a4, .ref a5, .int (nI ty), .int 0, .int (nI at_), .int (zb bF), .int val, .ref a6, .int (nI tl), .int (zb bC)]))]] : List va_W) H := hW
  refine lv_iload_n hx hb dX9_ifPassed_5 rfl (lv_at hl 1 rfl) ?_
  refine lv_iconst (v := 1) hx hb dX9_ifPassed_6 rfl ?_
  refine lv_bipush (v := 60) hx hb dX9_ifPassed_7 (by decide) ?_
  refine zc_ro (zr_S (As := [.int q, .int 1, .int 60]) (rest := []) X (m_X9_in l g q 1 60) zL_RX9_36 trivial hS hA0 hls rfl (Nat.le_of_ble_eq_true rfl) ⟨rfl, rfl, Nat.le_of_ble_eq_true rfl, Nat.le_of_ble_eq_true rfl, (Nat.le_of_ble_eq_true rfl), (Nat.le_of_ble_eq_true rfl)⟩ dX9_ifPassed_9) ?_
  refine zb_ifeq (tgt := 39) hx hb dX9_ifPassed_12 (by decide) (fun c12_0 => ?_) (fun c12_0 => ?_)
  · skip
    refine lv_aload_n hx hb dX9_ifPassed_39 rfl (lv_at hl 0 rfl) ?_
    refine lv_iconst (v := 1) hx hb dX9_ifPassed_40 rfl ?_
    refine zc_wr (gc := [[(x, .inr (12, [.ref a0, .ref a1, .ref a2, .int (nI k), .ref a3, .ref a4, .ref a5, .int (nI ty), .int 0, .int (nI at_), .int (zb bF), .int val, .ref a6, .int (nI tl), .int (zb bC)]))]]) (gr := []) (zr_V (As := [.int 1]) (rest := []) X (m_X9_fails l g x a0 a1 a2 a3 a4 a5 a6 k ty at_ tl 0 val bF bC 1 _) zL_RX9_47 (ci := 12) rfl (hW.H.at 0 0 rfl rfl) (zW.pre (gc := [[(x, .inr (12, [.ref a0, .ref a1, .ref a2, .int (nI k), .ref a3, .ref a4, .ref a5, .int (nI ty), .int 0, .int (nI at_), .int (zb bF), .int val, .ref a6, .int (nI tl), .int (zb bC)]))]]) (gr := []) hW hA0) hS hA0 hls rfl (Nat.le_of_ble_eq_true rfl) ⟨rfl, rfl, Nat.le_of_ble_eq_true rfl, Nat.le_of_ble_eq_true rfl, (Nat.le_of_ble_eq_true rfl), (Nat.le_of_ble_eq_true rfl)⟩ dX9_ifPassed_41) hW hS hA (fun v gc' H locs hpost hW hS => ?_)
    obtain ⟨rfl, rfl⟩ := hpost
    have hW : zW g A ([[(x, .inr (12, [.ref a0, .ref a1, .ref a2, .int (nI k), .ref a3, .ref a4, .ref a5, .int (nI ty), .int 1, .int (nI at_), .int (zb bF), .int val, .ref a6, .int (nI tl), .int (zb bC)]))]] : List va_W) H := hW
    refine W.eq (g2 := F0 zm 44 ls [.int 0]) rfl ?_
    refine zWR.iret X hAe hW hS hr hlocks ?_ (Nat.le_of_ble_eq_true rfl) (Nat.le_of_ble_eq_true rfl) dX9_ifPassed_44
    exact ⟨rfl, rfl⟩
  · skip
    refine lv_iload_n hx hb dX9_ifPassed_15 rfl (lv_at hl 2 rfl) ?_
    refine lv_iconst (v := 0) hx hb dX9_ifPassed_16 rfl ?_
    refine lv_iconst (v := 4) hx hb dX9_ifPassed_17 rfl ?_
    refine zc_ro (zr_S (As := [.int w, .int 0, .int 4]) (rest := []) X (m_X9_in l g w 0 4) zL_RX9_36 trivial hS hA0 hls rfl (Nat.le_of_ble_eq_true rfl) ⟨rfl, rfl, Nat.le_of_ble_eq_true rfl, Nat.le_of_ble_eq_true rfl, (Nat.le_of_ble_eq_true rfl), (Nat.le_of_ble_eq_true rfl)⟩ dX9_ifPassed_18) ?_
    refine zb_ifeq (tgt := 39) hx hb dX9_ifPassed_21 (by decide) (fun c21_1 => ?_) (fun c21_1 => ?_)
    · skip
      refine lv_aload_n hx hb dX9_ifPassed_39 rfl (lv_at hl 0 rfl) ?_
      refine lv_iconst (v := 1) hx hb dX9_ifPassed_40 rfl ?_
      refine zc_wr (gc := [[(x, .inr (12, [.ref a0, .ref a1, .ref a2, .int (nI k), .ref a3, .ref a4, .ref a5, .int (nI ty), .int 0, .int (nI at_), .int (zb bF), .int val, .ref a6, .int (nI tl), .int (zb bC)]))]]) (gr := []) (zr_V (As := [.int 1]) (rest := []) X (m_X9_fails l g x a0 a1 a2 a3 a4 a5 a6 k ty at_ tl 0 val bF bC 1 _) zL_RX9_47 (ci := 12) rfl (hW.H.at 0 0 rfl rfl) (zW.pre (gc := [[(x, .inr (12, [.ref a0, .ref a1, .ref a2, .int (nI k), .ref a3, .ref a4, .ref a5, .int (nI ty), .int 0, .int (nI at_), .int (zb bF), .int val, .ref a6, .int (nI tl), .int (zb bC)]))]]) (gr := []) hW hA0) hS hA0 hls rfl (Nat.le_of_ble_eq_true rfl) ⟨rfl, rfl, Nat.le_of_ble_eq_true rfl, Nat.le_of_ble_eq_true rfl, (Nat.le_of_ble_eq_true rfl), (Nat.le_of_ble_eq_true rfl)⟩ dX9_ifPassed_41) hW hS hA (fun v gc' H locs hpost hW hS => ?_)
      obtain ⟨rfl, rfl⟩ := hpost
      have hW : zW g A ([[(x, .inr (12, [.ref a0, .ref a1, .ref a2, .int (nI k), .ref a3, .ref a4, .ref a5, .int (nI ty), .int 1, .int (nI at_), .int (zb bF), .int val, .ref a6, .int (nI tl), .int (zb bC)]))]] : List va_W) H := hW
      refine W.eq (g2 := F0 zm 44 ls [.int 0]) rfl ?_
      refine zWR.iret X hAe hW hS hr hlocks ?_ (Nat.le_of_ble_eq_true rfl) (Nat.le_of_ble_eq_true rfl) dX9_ifPassed_44
      exact ⟨rfl, rfl⟩
    · exact absurd hbad (by simp [c12_0, c21_1])

abbrev rm_X9_ifPassed_ok : Room := { frames := 8, cells := 0, slots := 0, locals := 183 }
set_option maxHeartbeats 4000000 in
set_option maxRecDepth 100000 in
theorem m_X9_ifPassed_ok (l : Launch) (g : zG) (x a0 a1 a2 a3 a4 a5 a6 : Nat) (k ty at_ tl : Nat) (thr val : Int32) (bF bC : Bool) (f t : Nat → Int32) (d w : Nat) (n r : Nat) (hn : n ≤ 4) (h6 : f 6 = nI n) (hr6 : r < 6) (h5 : f 5 = nI r) (hla : m_allOk f n) (hd1 : 1 ≤ d) (hd : d ≤ 60) (hw : w < 5) (sz : Nat) : zWR l yX9_ifPassed cX9_ifPassed 3 (Option.some Jvm.ClassFile.FieldType.int) rm_X9_ifPassed_ok g [.ref x, .int (nI d), .int (nI w)] ([[(x, .inr (12, [.ref a0, .ref a1, .ref a2, .int (nI k), .ref a3, .ref a4, .ref a5, .int (nI ty), .int thr, .int (nI at_), .int (zb bF), .int val, .ref a6, .int (nI tl), .int (zb bC)]))], [(a0, .inl (g.2.1 0, 89, .inl f))], [(a1, .inl (g.2.1 0, 89, .inl t))]] : List va_W) 0 0 sz (fun zv gs' => ∃ (bc : Bool) (t' : Nat → Int32), zv = some (.int (m_by f n r d w)) ∧ gs' = [[(x, .inr (12, [.ref a0, .ref a1, .ref a2, .int (nI k), .ref a3, .ref a4, .ref a5, .int (nI ty), .int 0, .int (nI at_), .int (zb bF), .int val, .ref a6, .int (nI tl), .int (zb bc)]))], [(a0, .inl (g.2.1 0, 89, .inl f))], [(a1, .inl (g.2.1 0, 89, .inl t'))]]) := by
  refine zWR.start (by decide) (Nat.le_of_ble_eq_true rfl) ?_
  intro zp ze s zm zbl zmt zc ls A X hr hlocks hinn hl hAe hW hS hA hA0
  have hx := X.1
  have hb := X.2.1
  have hml := X.2.2.1
  have hown := X.2.2.2.1
  have hls := hl.1
  have hl : lv_has ls 3 [(0, .ref x), (1, .int (nI d)), (2, .int (nI w))] := hl
  refine lv_aload_n hx hb dX9_ifPassed_0 rfl (lv_at hl 0 rfl) ?_
  refine lv_iconst (v := 0) hx hb dX9_ifPassed_1 rfl ?_
  refine z_put X hW hS 0 0 rfl rfl zP_RX9_32_12 rfl rfl (Nat.le_of_ble_eq_true rfl) dX9_ifPassed_2 (fun H locs hW hS => ?_)
  have hW : zW g A ([[(x, .inr (12, [.ref a0, .ref a1, .ref a2, .int (nI k), .ref a3, .ref a4, .ref a5, .int (nI ty), .int 0, .int (nI at_), .int (zb bF), .int val, .ref a6, .int (nI tl), .int (zb bC)]))], [(a0, .inl (g.2.1 0, 89, .inl f))], [(a1, .inl (g.2.1 0, 89, .inl t))]] : List va_W) H := hW
  refine lv_iload_n hx hb dX9_ifPassed_5 rfl (lv_at hl 1 rfl) ?_
  refine lv_iconst (v := 1) hx hb dX9_ifPassed_6 rfl ?_
  refine lv_bipush (v := 60) hx hb dX9_ifPassed_7 (by decide) ?_
  refine zc_ro (zr_S (As := [.int (nI d), .int 1, .int 60]) (rest := []) X (m_X9_in l g (nI d) 1 60) zL_RX9_36 trivial hS hA0 hls rfl (Nat.le_of_ble_eq_true rfl) ⟨rfl, rfl, Nat.le_of_ble_eq_true rfl, Nat.le_of_ble_eq_true rfl, (Nat.le_of_ble_eq_true rfl), (Nat.le_of_ble_eq_true rfl)⟩ dX9_ifPassed_9) ?_
  refine zb_ifeq (tgt := 39) hx hb dX9_ifPassed_12 (by decide) (fun c12_0 => ?_) (fun c12_0 => ?_)
  · exact absurd ((m_in_T (a := 1) (b := 60) rfl rfl rfl (by omega) (by omega) (by decide)).symm.trans c12_0) (by decide)
  · skip
    refine lv_iload_n hx hb dX9_ifPassed_15 rfl (lv_at hl 2 rfl) ?_
    refine lv_iconst (v := 0) hx hb dX9_ifPassed_16 rfl ?_
    refine lv_iconst (v := 4) hx hb dX9_ifPassed_17 rfl ?_
    refine zc_ro (zr_S (As := [.int (nI w), .int 0, .int 4]) (rest := []) X (m_X9_in l g (nI w) 0 4) zL_RX9_36 trivial hS hA0 hls rfl (Nat.le_of_ble_eq_true rfl) ⟨rfl, rfl, Nat.le_of_ble_eq_true rfl, Nat.le_of_ble_eq_true rfl, (Nat.le_of_ble_eq_true rfl), (Nat.le_of_ble_eq_true rfl)⟩ dX9_ifPassed_18) ?_
    refine zb_ifeq (tgt := 39) hx hb dX9_ifPassed_21 (by decide) (fun c21_1 => ?_) (fun c21_1 => ?_)
    · exact absurd ((m_in_T (a := 0) (b := 4) rfl rfl rfl (by omega) (by omega) (by decide)).symm.trans c21_1) (by decide)
    · skip
      refine lv_aload_n hx hb dX9_ifPassed_24 rfl (lv_at hl 0 rfl) ?_
      refine lv_aload_n hx hb dX9_ifPassed_25 rfl (lv_at hl 0 rfl) ?_
      refine z_get X (hW.H.at 0 0 rfl rfl) zF_RX9_7_12 rfl dX9_ifPassed_26 ?_
      refine lv_iconst (v := 5) hx hb dX9_ifPassed_29 rfl ?_
      refine z_iald X (j := 5) (hW.H.at 1 0 rfl rfl) rfl (by omega) (by decide) dX9_ifPassed_30 ?_
      refine z_stk (b := [.int (nI r), .ref x]) (by rw [show (f 5) = nI r from h5]) ?_
      refine lv_iload_n hx hb dX9_ifPassed_31 rfl (lv_at hl 1 rfl) ?_
      refine lv_iload_n hx hb dX9_ifPassed_32 rfl (lv_at hl 2 rfl) ?_
      refine zc_wr (gc := [[(x, .inr (12, [.ref a0, .ref a1, .ref a2, .int (nI k), .ref a3, .ref a4, .ref a5, .int (nI ty), .int 0, .int (nI at_), .int (zb bF), .int val, .ref a6, .int (nI tl), .int (zb bC)]))], [(a0, .inl (g.2.1 0, 89, .inl f))], [(a1, .inl (g.2.1 0, 89, .inl t))]]) (gr := []) (zr_V (As := [.int (nI r), .int (nI d), .int (nI w)]) (rest := []) X (m_X9_byPassing l g x a0 a1 a2 a3 a4 a5 a6 k ty at_ tl 0 val bF bC f t r d w n (by omega) (by omega) (by omega) (by omega) (by first | exact h6c | exact h6 | (simp (disch := omega) only [upd_n]; first | exact h6c | exact h6)) hla _) zL_RX9_219 (ci := 12) rfl (hW.H.at 0 0 rfl rfl) (zW.pre (gc := [[(x, .inr (12, [.ref a0, .ref a1, .ref a2, .int (nI k), .ref a3, .ref a4, .ref a5, .int (nI ty), .int 0, .int (nI at_), .int (zb bF), .int val, .ref a6, .int (nI tl), .int (zb bC)]))], [(a0, .inl (g.2.1 0, 89, .inl f))], [(a1, .inl (g.2.1 0, 89, .inl t))]]) (gr := []) hW hA0) hS hA0 hls rfl (Nat.le_of_ble_eq_true rfl) ⟨rfl, rfl, Nat.le_of_ble_eq_true rfl, Nat.le_of_ble_eq_true rfl, (Nat.le_of_ble_eq_true rfl), (Nat.le_of_ble_eq_true rfl)⟩ dX9_ifPassed_33) hW hS hA (fun v gc' H locs hpost hW hS => ?_)
      obtain ⟨bc3, t4, rfl, rfl⟩ := hpost
      have hW : zW g A ([[(x, .inr (12, [.ref a0, .ref a1, .ref a2, .int (nI k), .ref a3, .ref a4, .ref a5, .int (nI ty), .int 0, .int (nI at_), .int (zb bF), .int val, .ref a6, .int (nI tl), .int (zb bc3)]))], [(a0, .inl (g.2.1 0, 89, .inl f))], [(a1, .inl (g.2.1 0, 89, .inl t4))]] : List va_W) H := hW
      refine W.eq (g2 := F0 zm 36 ls [.int (m_by f n r d w)]) rfl ?_
      refine lv_goto (tgt := 44) hx hb dX9_ifPassed_36 (by decide) ?_
      refine zWR.iret X hAe hW hS hr hlocks ?_ (Nat.le_of_ble_eq_true rfl) (Nat.le_of_ble_eq_true rfl) dX9_ifPassed_44
      exact ⟨_, _, rfl, rfl⟩

abbrev rm_X9_clears : Room := { frames := 6, cells := 0, slots := 0, locals := 137 }
set_option maxHeartbeats 4000000 in
set_option maxRecDepth 100000 in
theorem m_X9_clears (l : Launch) (g : zG) (x a0 a1 a2 a3 a4 a5 a6 : Nat) (k ty at_ tl : Nat) (thr val : Int32) (bF bC : Bool) (f t : Nat → Int32) (n r : Nat) (hn : n ≤ 4) (h6 : f 6 = nI n) (hr6 : r < 6) (h5 : f 5 = nI r) (hla : m_allOk f n)  (sz : Nat) : zWR l yX9_clears cX9_clears 2 (Option.some Jvm.ClassFile.FieldType.int) rm_X9_clears g [.ref x] ([[(x, .inr (12, [.ref a0, .ref a1, .ref a2, .int (nI k), .ref a3, .ref a4, .ref a5, .int (nI ty), .int thr, .int (nI at_), .int (zb bF), .int val, .ref a6, .int (nI tl), .int (zb bC)]))], [(a0, .inl (g.2.1 0, 89, .inl f))], [(a1, .inl (g.2.1 0, 89, .inl t))]] : List va_W) 0 0 sz (fun zv gs' => ∃ (bc : Bool) (t' : Nat → Int32), zv = some (.int (m_clears f n r)) ∧ gs' = [[(x, .inr (12, [.ref a0, .ref a1, .ref a2, .int (nI k), .ref a3, .ref a4, .ref a5, .int (nI ty), .int thr, .int (nI at_), .int (zb bF), .int val, .ref a6, .int (nI tl), .int (zb bc)]))], [(a0, .inl (g.2.1 0, 89, .inl f))], [(a1, .inl (g.2.1 0, 89, .inl t'))]]) := by
  refine zWR.start (by decide) (Nat.le_of_ble_eq_true rfl) ?_
  intro zp ze s zm zbl zmt zc ls A X hr hlocks hinn hl hAe hW hS hA hA0
  have hx := X.1
  have hb := X.2.1
  have hml := X.2.2.1
  have hown := X.2.2.2.1
  have hls := hl.1
  have hl : lv_has ls 2 [(0, .ref x)] := hl
  refine lv_aload_n hx hb dX9_clears_0 rfl (lv_at hl 0 rfl) ?_
  refine z_get X (hW.H.at 0 0 rfl rfl) zF_RX9_7_12 rfl dX9_clears_1 ?_
  refine zc_ro (zr_S (As := [.ref a0]) (rest := []) X (m_X9_siltIn l g a0 f r (by omega) (by first | exact h5c | exact h5 | (simp (disch := omega) only [upd_n]; first | exact h5c | exact h5))) zL_RX9_81 (zH.cons (va_P.one (hW.H.at 1 0 rfl rfl)) zH.nil) hS hA0 hls rfl (Nat.le_of_ble_eq_true rfl) ⟨rfl, rfl, Nat.le_of_ble_eq_true rfl, Nat.le_of_ble_eq_true rfl, (Nat.le_of_ble_eq_true rfl), (Nat.le_of_ble_eq_true rfl)⟩ dX9_clears_4) ?_
  refine lv_if_ne (tgt := 12) hx hb dX9_clears_7 (by decide) (fun c7_0 => ?_) (fun c7_0 => ?_)
  · skip
    refine lv_aload_n hx hb dX9_clears_12 rfl (lv_at hl 0 rfl) ?_
    refine z_get X (hW.H.at 0 0 rfl rfl) zF_RX9_7_12 rfl dX9_clears_13 ?_
    refine lv_iconst (v := 0) hx hb dX9_clears_16 rfl ?_
    refine lv_aload_n hx hb dX9_clears_17 rfl (lv_at hl 0 rfl) ?_
    refine z_get X (hW.H.at 0 0 rfl rfl) zF_RX9_13_12 rfl dX9_clears_18 ?_
    refine lv_iconst (v := 0) hx hb dX9_clears_21 rfl ?_
    have hW := hW.perm (gs' := ([[(a0, .inl (g.2.1 0, 89, .inl f))], [(a1, .inl (g.2.1 0, 89, .inl t))], [(x, .inr (12, [.ref a0, .ref a1, .ref a2, .int (nI k), .ref a3, .ref a4, .ref a5, .int (nI ty), .int thr, .int (nI at_), .int (zb bF), .int val, .ref a6, .int (nI tl), .int (zb bC)]))]] : List va_W)) [1, 2, 0] 3 rfl (by decide) rfl
    refine zc_wr (gc := [[(a0, .inl (g.2.1 0, 89, .inl f))], [(a1, .inl (g.2.1 0, 89, .inl t))]]) (gr := [[(x, .inr (12, [.ref a0, .ref a1, .ref a2, .int (nI k), .ref a3, .ref a4, .ref a5, .int (nI ty), .int thr, .int (nI at_), .int (zb bF), .int val, .ref a6, .int (nI tl), .int (zb bC)]))]]) (zr_S (As := [.ref a0, .int 0, .ref a1, .int 0]) (rest := []) X (m_X9_copies l g a0 a1 0 0 89 89 f t (by omega) (by omega) (by omega) (by omega) _) zL_RX9_43 (zW.pre (gc := [[(a0, .inl (g.2.1 0, 89, .inl f))], [(a1, .inl (g.2.1 0, 89, .inl t))]]) (gr := [[(x, .inr (12, [.ref a0, .ref a1, .ref a2, .int (nI k), .ref a3, .ref a4, .ref a5, .int (nI ty), .int thr, .int (nI at_), .int (zb bF), .int val, .ref a6, .int (nI tl), .int (zb bC)]))]]) hW hA0) hS hA0 hls rfl (Nat.le_of_ble_eq_true rfl) ⟨rfl, rfl, Nat.le_of_ble_eq_true rfl, Nat.le_of_ble_eq_true rfl, (Nat.le_of_ble_eq_true rfl), (Nat.le_of_ble_eq_true rfl)⟩ dX9_clears_22) hW hS hA (fun v gc' H locs hpost hW hS => ?_)
    obtain ⟨rfl, rfl⟩ := hpost
    have hW : zW g A ([[(a0, .inl (g.2.1 0, 89, .inl f))], [(a1, .inl (g.2.1 0, 89, .inl (va_cpy f t 0 0 89)))], [(x, .inr (12, [.ref a0, .ref a1, .ref a2, .int (nI k), .ref a3, .ref a4, .ref a5, .int (nI ty), .int thr, .int (nI at_), .int (zb bF), .int val, .ref a6, .int (nI tl), .int (zb bC)]))]] : List va_W) H := hW
    refine W.eq (g2 := F0 zm 25 ls []) rfl ?_
    have hW := zW.arr hW 1 0 (f' := f) rfl rfl (fun k hk => by unfold va_cpy; rw [if_pos (by omega)]; congr 1; omega)
    have hW : zW g A ([[(a0, .inl (g.2.1 0, 89, .inl f))], [(a1, .inl (g.2.1 0, 89, .inl f))], [(x, .inr (12, [.ref a0, .ref a1, .ref a2, .int (nI k), .ref a3, .ref a4, .ref a5, .int (nI ty), .int thr, .int (nI at_), .int (zb bF), .int val, .ref a6, .int (nI tl), .int (zb bC)]))]] : List va_W) H := hW
    refine lv_iconst (v := 1) hx hb dX9_clears_25 rfl ?_
    refine lv_istore_n (lv' := [(1, .int 1), (0, .ref x)]) hx hb dX9_clears_26 rfl hl (by decide) rfl (fun ls hl => ?_)
    have hls := hl.1
    have hj27 : ∀ (zn j : Nat) (h_le : j ≤ 200) (h_fu : 200 < j + zn) (bc : Bool) (c : Nat → Int32) (hc : c = m_days f n r j) (hcl : m_clears f n r = m_clrF f n r (200 - j) j) (H : Heap) (locs : List Loc), zW g A ([[(x, .inr (12, [.ref a0, .ref a1, .ref a2, .int (nI k), .ref a3, .ref a4, .ref a5, .int (nI ty), .int thr, .int (nI at_), .int (zb bF), .int val, .ref a6, .int (nI tl), .int (zb bc)]))], [(a0, .inl (g.2.1 0, 89, .inl f))], [(a1, .inl (g.2.1 0, 89, .inl c))]] : List va_W) H → va_S A s.heap H locs → ∀ (ls : Array Slot), lv_has ls 2 [(0, .ref x), (1, .int (nI (j + 1)))] → W zp l ze rm_X9_clears s zm ([.ref x] : List Value).toArray zbl zmt zc H locs 0 0 (MQ zbl (zQW g ([[(x, .inr (12, [.ref a0, .ref a1, .ref a2, .int (nI k), .ref a3, .ref a4, .ref a5, .int (nI ty), .int thr, .int (nI at_), .int (zb bF), .int val, .ref a6, .int (nI tl), .int (zb bC)]))], [(a0, .inl (g.2.1 0, 89, .inl f))], [(a1, .inl (g.2.1 0, 89, .inl t))]] : List va_W) (fun zv gs' => ∃ (bc : Bool) (t' : Nat → Int32), zv = some (.int (m_clears f n r)) ∧ gs' = [[(x, .inr (12, [.ref a0, .ref a1, .ref a2, .int (nI k), .ref a3, .ref a4, .ref a5, .int (nI ty), .int thr, .int (nI at_), .int (zb bF), .int val, .ref a6, .int (nI tl), .int (zb bc)]))], [(a0, .inl (g.2.1 0, 89, .inl f))], [(a1, .inl (g.2.1 0, 89, .inl t'))]])) ([.ref x] : List Value).toArray s 0 0 A) (F0 zm 27 ls []) := by
      intro zn
      induction zn with
      | zero => intro j h_le h_fu; exact absurd h_fu (by omega)
      | succ zn ih27 =>
        intro j h_le h_fu bc c hc hcl H locs hW hS ls hl
        have hls := hl.1
        have h6c : c 6 = nI n := by rw [hc]; exact (m_days_lo (by omega) (by omega)).trans h6
        have h5c : c 5 = nI r := by rw [hc]; exact (m_days_lo (by omega) (by omega)).trans h5
        refine lv_iload_n hx hb dX9_clears_27 rfl (lv_at hl 1 rfl) ?_
        refine lv_sipush (v := 200) hx hb dX9_clears_28 (by decide) ?_
        refine lv_icmp_gt (tgt := 57) hx hb dX9_clears_31 (by decide) (fun c31_1 => ?_) (fun c31_1 => ?_)
        · skip
          have kc31_1 := (zn_lt (a := 200) (b := j + 1) rfl rfl (by omega) (by omega)).mp c31_1
          refine lv_iconst (v := (-1)) hx hb dX9_clears_57 rfl ?_
          refine zWR.iret X hAe hW hS hr hlocks ?_ (Nat.le_of_ble_eq_true rfl) (Nat.le_of_ble_eq_true rfl) dX9_clears_58
          refine ⟨_, _, ?_, rfl⟩
          rw [hcl, show 200 - j = 0 by omega]
          rfl
        · skip
          have kc31_1 := mt (zn_lt (a := 200) (b := j + 1) rfl rfl (by omega) (by omega)).mpr c31_1
          have hlayc : m_layOk c n := by rw [hc]; exact m_allOk_at hla hr6 h5 (by omega)
          refine lv_aload_n hx hb dX9_clears_34 rfl (lv_at hl 0 rfl) ?_
          refine lv_aload_n hx hb dX9_clears_35 rfl (lv_at hl 0 rfl) ?_
          refine z_get X (hW.H.at 0 0 rfl rfl) zF_RX9_13_12 rfl dX9_clears_36 ?_
          have hW := hW.perm (gs' := ([[(x, .inr (12, [.ref a0, .ref a1, .ref a2, .int (nI k), .ref a3, .ref a4, .ref a5, .int (nI ty), .int thr, .int (nI at_), .int (zb bF), .int val, .ref a6, .int (nI tl), .int (zb bc)]))], [(a1, .inl (g.2.1 0, 89, .inl c))], [(a0, .inl (g.2.1 0, 89, .inl f))]] : List va_W)) [0, 2, 1] 3 rfl (by decide) rfl
          refine zc_wr (gc := [[(x, .inr (12, [.ref a0, .ref a1, .ref a2, .int (nI k), .ref a3, .ref a4, .ref a5, .int (nI ty), .int thr, .int (nI at_), .int (zb bF), .int val, .ref a6, .int (nI tl), .int (zb bc)]))], [(a1, .inl (g.2.1 0, 89, .inl c))]]) (gr := [[(a0, .inl (g.2.1 0, 89, .inl f))]]) (zr_V (As := [.ref a1]) (rest := []) X (m_X9_day l g x a0 a1 a2 a3 a4 a5 a6 k ty at_ tl thr val bF bc a1 c n r (by omega) (by first | exact h6c | exact h6 | (simp (disch := omega) only [upd_n]; first | exact h6c | exact h6)) (by omega) (by first | exact h5c | exact h5 | (simp (disch := omega) only [upd_n]; first | exact h5c | exact h5)) (by first | exact hlay | exact hlayc) _) zL_RX9_114 (ci := 12) rfl (hW.H.at 0 0 rfl rfl) (zW.pre (gc := [[(x, .inr (12, [.ref a0, .ref a1, .ref a2, .int (nI k), .ref a3, .ref a4, .ref a5, .int (nI ty), .int thr, .int (nI at_), .int (zb bF), .int val, .ref a6, .int (nI tl), .int (zb bc)]))], [(a1, .inl (g.2.1 0, 89, .inl c))]]) (gr := [[(a0, .inl (g.2.1 0, 89, .inl f))]]) hW hA0) hS hA0 hls rfl (Nat.le_of_ble_eq_true rfl) ⟨rfl, rfl, Nat.le_of_ble_eq_true rfl, Nat.le_of_ble_eq_true rfl, (Nat.le_of_ble_eq_true rfl), (Nat.le_of_ble_eq_true rfl)⟩ dX9_clears_39) hW hS hA (fun v gc' H locs hpost hW hS => ?_)
          obtain ⟨rfl, rfl⟩ := hpost
          have hW : zW g A ([[(x, .inr (12, [.ref a0, .ref a1, .ref a2, .int (nI k), .ref a3, .ref a4, .ref a5, .int (nI ty), .int thr, .int (nI at_), .int (zb bF), .int val, .ref a6, .int (nI tl), .int (zb (m_clear c n r))]))], [(a1, .inl (g.2.1 0, 89, .inl (m_day c n r)))], [(a0, .inl (g.2.1 0, 89, .inl f))]] : List va_W) H := hW
          refine W.eq (g2 := F0 zm 42 ls []) rfl ?_
          refine lv_aload_n hx hb dX9_clears_42 rfl (lv_at hl 0 rfl) ?_
          refine z_get X (hW.H.at 0 0 rfl rfl) zF_RX9_104_12 rfl dX9_clears_43 ?_
          refine zb_ifeq (tgt := 51) hx hb dX9_clears_46 (by decide) (fun c46_2 => ?_) (fun c46_2 => ?_)
          · skip
            refine lv_iinc (v := nI (j + 1 + 1)) (lv' := [(1, .int (nI (j + 1 + 1))), (0, .ref x)]) hx hb dX9_clears_51 hl (k := 1) rfl (zx_add rfl rfl) (by decide) rfl (fun ls hl => ?_)
            have hls := hl.1
            refine lv_goto (tgt := 27) hx hb dX9_clears_54 (by decide) ?_
            have hW := hW.perm (gs' := ([[(x, .inr (12, [.ref a0, .ref a1, .ref a2, .int (nI k), .ref a3, .ref a4, .ref a5, .int (nI ty), .int thr, .int (nI at_), .int (zb bF), .int val, .ref a6, .int (nI tl), .int (zb (m_clear c n r))]))], [(a0, .inl (g.2.1 0, 89, .inl f))], [(a1, .inl (g.2.1 0, 89, .inl (m_day c n r)))]] : List va_W)) [0, 2, 1] 3 rfl (by decide) rfl
            exact ih27 (j + 1) (by omega) (by omega) _ _ (by rw [hc]; rfl) (by rw [hcl, show 200 - j = (200 - (j + 1)) + 1 by omega, m_clrF, if_neg (by rw [← hc, c46_2]; decide)]) _ _ hW hS _ (lv_sub hl [1, 0] rfl)
          · skip
            refine lv_iload_n hx hb dX9_clears_49 rfl (lv_at hl 1 rfl) ?_
            have hW := hW.perm (gs' := ([[(x, .inr (12, [.ref a0, .ref a1, .ref a2, .int (nI k), .ref a3, .ref a4, .ref a5, .int (nI ty), .int thr, .int (nI at_), .int (zb bF), .int val, .ref a6, .int (nI tl), .int (zb (m_clear c n r))]))], [(a0, .inl (g.2.1 0, 89, .inl f))], [(a1, .inl (g.2.1 0, 89, .inl (m_day c n r)))]] : List va_W)) [0, 2, 1] 3 rfl (by decide) rfl
            refine zWR.iret X hAe hW hS hr hlocks ?_ (Nat.le_of_ble_eq_true rfl) (Nat.le_of_ble_eq_true rfl) dX9_clears_50
            refine ⟨_, _, ?_, rfl⟩
            rw [hcl, show 200 - j = (200 - (j + 1)) + 1 by omega, m_clrF, if_pos (by rw [← hc]; exact c46_2)]
    have hW := hW.perm (gs' := ([[(x, .inr (12, [.ref a0, .ref a1, .ref a2, .int (nI k), .ref a3, .ref a4, .ref a5, .int (nI ty), .int thr, .int (nI at_), .int (zb bF), .int val, .ref a6, .int (nI tl), .int (zb bC)]))], [(a0, .inl (g.2.1 0, 89, .inl f))], [(a1, .inl (g.2.1 0, 89, .inl f))]] : List va_W)) [2, 0, 1] 3 rfl (by decide) rfl
    exact hj27 (200 + 1) (0) (by omega) (by omega) _ _ rfl (by unfold m_clears; simp only [if_neg c7_0]) _ _ hW hS _ (lv_sub hl [1, 0] rfl)
  · skip
    refine lv_iconst (v := 0) hx hb dX9_clears_10 rfl ?_
    refine zWR.iret X hAe hW hS hr hlocks ?_ (Nat.le_of_ble_eq_true rfl) (Nat.le_of_ble_eq_true rfl) dX9_clears_11
    refine ⟨_, _, ?_, rfl⟩
    unfold m_clears; simp only [if_pos c7_0]

abbrev rm_X9_clearIn : Room := { frames := 7, cells := 0, slots := 0, locals := 158 }
set_option maxHeartbeats 4000000 in
set_option maxRecDepth 100000 in
theorem m_X9_clearIn (l : Launch) (g : zG) (x a0 a1 a2 a3 a4 a5 a6 : Nat) (k ty at_ tl : Nat) (thr val : Int32) (bF bC : Bool) (f t : Nat → Int32) (n r : Nat) (hn : n ≤ 4) (h6 : f 6 = nI n) (hr6 : r < 6) (h5 : f 5 = nI r) (hla : m_allOk f n)  (sz : Nat) : zWR l yX9_clearIn cX9_clearIn 1 (Option.some Jvm.ClassFile.FieldType.int) rm_X9_clearIn g [.ref x] ([[(x, .inr (12, [.ref a0, .ref a1, .ref a2, .int (nI k), .ref a3, .ref a4, .ref a5, .int (nI ty), .int thr, .int (nI at_), .int (zb bF), .int val, .ref a6, .int (nI tl), .int (zb bC)]))], [(a0, .inl (g.2.1 0, 89, .inl f))], [(a1, .inl (g.2.1 0, 89, .inl t))]] : List va_W) 0 0 sz (fun zv gs' => ∃ (bc : Bool) (t' : Nat → Int32), zv = some (.int (m_clears f n r)) ∧ gs' = [[(x, .inr (12, [.ref a0, .ref a1, .ref a2, .int (nI k), .ref a3, .ref a4, .ref a5, .int (nI ty), .int 0, .int (nI at_), .int (zb bF), .int val, .ref a6, .int (nI tl), .int (zb bc)]))], [(a0, .inl (g.2.1 0, 89, .inl f))], [(a1, .inl (g.2.1 0, 89, .inl t'))]]) := by
  refine zWR.start (by decide) (Nat.le_of_ble_eq_true rfl) ?_
  intro zp ze s zm zbl zmt zc ls A X hr hlocks hinn hl hAe hW hS hA hA0
  have hx := X.1
  have hb := X.2.1
  have hml := X.2.2.1
  have hown := X.2.2.2.1
  have hls := hl.1
  have hl : lv_has ls 1 [(0, .ref x)] := hl
  refine lv_aload_n hx hb dX9_clearIn_0 rfl (lv_at hl 0 rfl) ?_
  refine lv_iconst (v := 0) hx hb dX9_clearIn_1 rfl ?_
  refine z_put X hW hS 0 0 rfl rfl zP_RX9_32_12 rfl rfl (Nat.le_of_ble_eq_true rfl) dX9_clearIn_2 (fun H locs hW hS => ?_)
  have hW : zW g A ([[(x, .inr (12, [.ref a0, .ref a1, .ref a2, .int (nI k), .ref a3, .ref a4, .ref a5, .int (nI ty), .int 0, .int (nI at_), .int (zb bF), .int val, .ref a6, .int (nI tl), .int (zb bC)]))], [(a0, .inl (g.2.1 0, 89, .inl f))], [(a1, .inl (g.2.1 0, 89, .inl t))]] : List va_W) H := hW
  refine lv_aload_n hx hb dX9_clearIn_5 rfl (lv_at hl 0 rfl) ?_
  refine zc_wr (gc := [[(x, .inr (12, [.ref a0, .ref a1, .ref a2, .int (nI k), .ref a3, .ref a4, .ref a5, .int (nI ty), .int 0, .int (nI at_), .int (zb bF), .int val, .ref a6, .int (nI tl), .int (zb bC)]))], [(a0, .inl (g.2.1 0, 89, .inl f))], [(a1, .inl (g.2.1 0, 89, .inl t))]]) (gr := []) (zr_V (As := []) (rest := []) X (m_X9_clears l g x a0 a1 a2 a3 a4 a5 a6 k ty at_ tl 0 val bF bC f t n r (by omega) (by first | exact h6c | exact h6 | (simp (disch := omega) only [upd_n]; first | exact h6c | exact h6)) (by omega) (by first | exact h5c | exact h5) hla _) zL_RX9_223 (ci := 12) rfl (hW.H.at 0 0 rfl rfl) (zW.pre (gc := [[(x, .inr (12, [.ref a0, .ref a1, .ref a2, .int (nI k), .ref a3, .ref a4, .ref a5, .int (nI ty), .int 0, .int (nI at_), .int (zb bF), .int val, .ref a6, .int (nI tl), .int (zb bC)]))], [(a0, .inl (g.2.1 0, 89, .inl f))], [(a1, .inl (g.2.1 0, 89, .inl t))]]) (gr := []) hW hA0) hS hA0 hls rfl (Nat.le_of_ble_eq_true rfl) ⟨rfl, rfl, Nat.le_of_ble_eq_true rfl, Nat.le_of_ble_eq_true rfl, (Nat.le_of_ble_eq_true rfl), (Nat.le_of_ble_eq_true rfl)⟩ dX9_clearIn_6) hW hS hA (fun v gc' H locs hpost hW hS => ?_)
  obtain ⟨bc1, t2, rfl, rfl⟩ := hpost
  have hW : zW g A ([[(x, .inr (12, [.ref a0, .ref a1, .ref a2, .int (nI k), .ref a3, .ref a4, .ref a5, .int (nI ty), .int 0, .int (nI at_), .int (zb bF), .int val, .ref a6, .int (nI tl), .int (zb bc1)]))], [(a0, .inl (g.2.1 0, 89, .inl f))], [(a1, .inl (g.2.1 0, 89, .inl t2))]] : List va_W) H := hW
  refine W.eq (g2 := F0 zm 9 ls [.int (m_clears f n r)]) rfl ?_
  refine zWR.iret X hAe hW hS hr hlocks ?_ (Nat.le_of_ble_eq_true rfl) (Nat.le_of_ble_eq_true rfl) dX9_clearIn_9
  exact ⟨_, _, rfl, rfl⟩

abbrev rm_X9_most : Room := { frames := 8, cells := 0, slots := 0, locals := 183 }
set_option maxHeartbeats 4000000 in
set_option maxRecDepth 100000 in
theorem m_X9_most (l : Launch) (g : zG) (x a0 a1 a2 a3 a4 a5 a6 : Nat) (k ty at_ tl : Nat) (thr val : Int32) (bF bC : Bool) (f t : Nat → Int32) (d n : Nat) (hd : d ≤ 60) (hn : n ≤ 4) (h6 : f 6 = nI n) (hla : m_allOk f n) (sz : Nat) : zWR l yX9_most cX9_most 6 (Option.some Jvm.ClassFile.FieldType.int) rm_X9_most g [.ref x, .int (nI d)] ([[(x, .inr (12, [.ref a0, .ref a1, .ref a2, .int (nI k), .ref a3, .ref a4, .ref a5, .int (nI ty), .int thr, .int (nI at_), .int (zb bF), .int val, .ref a6, .int (nI tl), .int (zb bC)]))], [(a0, .inl (g.2.1 0, 89, .inl f))], [(a1, .inl (g.2.1 0, 89, .inl t))]] : List va_W) 0 0 sz (fun zv gs' => ∃ (bc : Bool) (t' : Nat → Int32), zv = some (.int (m_most f n d)) ∧ gs' = [[(x, .inr (12, [.ref a0, .ref a1, .ref a2, .int (nI k), .ref a3, .ref a4, .ref a5, .int (nI ty), .int thr, .int (nI at_), .int (zb bF), .int val, .ref a6, .int (nI tl), .int (zb bc)]))], [(a0, .inl (g.2.1 0, 89, .inl f))], [(a1, .inl (g.2.1 0, 89, .inl t'))]]) := by
  refine zWR.start (by decide) (Nat.le_of_ble_eq_true rfl) ?_
  intro zp ze s zm zbl zmt zc ls A X hr hlocks hinn hl hAe hW hS hA hA0
  have hx := X.1
  have hb := X.2.1
  have hml := X.2.2.1
  have hown := X.2.2.2.1
  have hls := hl.1
  have hl : lv_has ls 6 [(0, .ref x), (1, .int (nI d))] := hl
  refine lv_iconst (v := 0) hx hb dX9_most_0 rfl ?_
  refine lv_istore_n (lv' := [(2, .int 0), (0, .ref x), (1, .int (nI d))]) hx hb dX9_most_1 rfl hl (by decide) rfl (fun ls hl => ?_)
  have hls := hl.1
  refine lv_iconst (v := (-1)) hx hb dX9_most_2 rfl ?_
  refine lv_istore_n (lv' := [(3, .int (-1)), (2, .int 0), (0, .ref x), (1, .int (nI d))]) hx hb dX9_most_3 rfl hl (by decide) rfl (fun ls hl => ?_)
  have hls := hl.1
  refine lv_iconst (v := 0) hx hb dX9_most_4 rfl ?_
  refine lv_istore (lv' := [(4, .int 0), (3, .int (-1)), (2, .int 0), (0, .ref x), (1, .int (nI d))]) hx hb dX9_most_5 hl (by decide) rfl (fun ls hl => ?_)
  have hls := hl.1
  have hj7 : ∀ (zn rr : Nat) (h_le : rr ≤ 6) (h_fu : 6 < rr + zn) (bc : Bool) (t1 : Nat → Int32) (fo ms : Int32) (hfm : (fo, ms) = m_mostL f n d rr) (H : Heap) (locs : List Loc), zW g A ([[(x, .inr (12, [.ref a0, .ref a1, .ref a2, .int (nI k), .ref a3, .ref a4, .ref a5, .int (nI ty), .int thr, .int (nI at_), .int (zb bF), .int val, .ref a6, .int (nI tl), .int (zb bc)]))], [(a0, .inl (g.2.1 0, 89, .inl f))], [(a1, .inl (g.2.1 0, 89, .inl t1))]] : List va_W) H → va_S A s.heap H locs → ∀ (ls : Array Slot), lv_has ls 6 [(0, .ref x), (1, .int (nI d)), (2, .int fo), (3, .int ms), (4, .int (nI rr))] → W zp l ze rm_X9_most s zm ([.ref x, .int (nI d)] : List Value).toArray zbl zmt zc H locs 0 0 (MQ zbl (zQW g ([[(x, .inr (12, [.ref a0, .ref a1, .ref a2, .int (nI k), .ref a3, .ref a4, .ref a5, .int (nI ty), .int thr, .int (nI at_), .int (zb bF), .int val, .ref a6, .int (nI tl), .int (zb bC)]))], [(a0, .inl (g.2.1 0, 89, .inl f))], [(a1, .inl (g.2.1 0, 89, .inl t))]] : List va_W) (fun zv gs' => ∃ (bc : Bool) (t' : Nat → Int32), zv = some (.int (m_most f n d)) ∧ gs' = [[(x, .inr (12, [.ref a0, .ref a1, .ref a2, .int (nI k), .ref a3, .ref a4, .ref a5, .int (nI ty), .int thr, .int (nI at_), .int (zb bF), .int val, .ref a6, .int (nI tl), .int (zb bc)]))], [(a0, .inl (g.2.1 0, 89, .inl f))], [(a1, .inl (g.2.1 0, 89, .inl t'))]])) ([.ref x, .int (nI d)] : List Value).toArray s 0 0 A) (F0 zm 7 ls []) := by
    intro zn
    induction zn with
    | zero => intro rr h_le h_fu; exact absurd h_fu (by omega)
    | succ zn ih7 =>
      intro rr h_le h_fu bc t1 fo ms hfm H locs hW hS ls hl
      have hls := hl.1
      refine lv_iload hx hb dX9_most_7 (lv_at hl 4 rfl) ?_
      refine lv_bipush (v := 6) hx hb dX9_most_9 (by decide) ?_
      refine lv_icmp_ge (tgt := 56) hx hb dX9_most_11 (by decide) (fun c11_0 => ?_) (fun c11_0 => ?_)
      · skip
        have kc11_0 := (zn_le (a := 6) (b := rr) rfl rfl (by omega) (by omega)).mp c11_0
        refine lv_iload_n hx hb dX9_most_56 rfl (lv_at hl 2 rfl) ?_
        refine zWR.iret X hAe hW hS hr hlocks ?_ (Nat.le_of_ble_eq_true rfl) (Nat.le_of_ble_eq_true rfl) dX9_most_57
        refine ⟨_, _, ?_, rfl⟩
        rw [m_most, ← show rr = 6 by omega, ← hfm]
      · skip
        have kc11_0 := mt (zn_le (a := 6) (b := rr) rfl rfl (by omega) (by omega)).mpr c11_0
        refine lv_aload_n hx hb dX9_most_14 rfl (lv_at hl 0 rfl) ?_
        refine lv_iload hx hb dX9_most_15 (lv_at hl 4 rfl) ?_
        refine lv_iload_n hx hb dX9_most_17 rfl (lv_at hl 1 rfl) ?_
        refine lv_iconst (v := 0) hx hb dX9_most_18 rfl ?_
        refine zc_wr (gc := [[(x, .inr (12, [.ref a0, .ref a1, .ref a2, .int (nI k), .ref a3, .ref a4, .ref a5, .int (nI ty), .int thr, .int (nI at_), .int (zb bF), .int val, .ref a6, .int (nI tl), .int (zb bc)]))], [(a0, .inl (g.2.1 0, 89, .inl f))], [(a1, .inl (g.2.1 0, 89, .inl t1))]]) (gr := []) (zr_V (As := [.int (nI rr), .int (nI d), .int 0]) (rest := []) X (m_X9_byPassing l g x a0 a1 a2 a3 a4 a5 a6 k ty at_ tl thr val bF bc f t1 rr d 0 n (by omega) (by omega) (by omega) (by omega) (by first | exact h6c | exact h6 | (simp (disch := omega) only [upd_n]; first | exact h6c | exact h6)) hla _) zL_RX9_219 (ci := 12) rfl (hW.H.at 0 0 rfl rfl) (zW.pre (gc := [[(x, .inr (12, [.ref a0, .ref a1, .ref a2, .int (nI k), .ref a3, .ref a4, .ref a5, .int (nI ty), .int thr, .int (nI at_), .int (zb bF), .int val, .ref a6, .int (nI tl), .int (zb bc)]))], [(a0, .inl (g.2.1 0, 89, .inl f))], [(a1, .inl (g.2.1 0, 89, .inl t1))]]) (gr := []) hW hA0) hS hA0 hls rfl (Nat.le_of_ble_eq_true rfl) ⟨rfl, rfl, Nat.le_of_ble_eq_true rfl, Nat.le_of_ble_eq_true rfl, (Nat.le_of_ble_eq_true rfl), (Nat.le_of_ble_eq_true rfl)⟩ dX9_most_19) hW hS hA (fun v gc' H locs hpost hW hS => ?_)
        obtain ⟨bc2, t3, rfl, rfl⟩ := hpost
        have hW : zW g A ([[(x, .inr (12, [.ref a0, .ref a1, .ref a2, .int (nI k), .ref a3, .ref a4, .ref a5, .int (nI ty), .int thr, .int (nI at_), .int (zb bF), .int val, .ref a6, .int (nI tl), .int (zb bc2)]))], [(a0, .inl (g.2.1 0, 89, .inl f))], [(a1, .inl (g.2.1 0, 89, .inl t3))]] : List va_W) H := hW
        refine W.eq (g2 := F0 zm 22 ls [.int (m_by f n rr d 0)]) rfl ?_
        refine lv_istore (lv' := [(5, .int (m_by f n rr d 0)), (0, .ref x), (1, .int (nI d)), (2, .int fo), (3, .int ms), (4, .int (nI rr))]) hx hb dX9_most_22 hl (by decide) rfl (fun ls hl => ?_)
        have hls := hl.1
        refine lv_iload hx hb dX9_most_24 (lv_at hl 0 rfl) ?_
        refine lv_iload_n hx hb dX9_most_26 rfl (lv_at hl 4 rfl) ?_
        refine lv_icmp_le (tgt := 35) hx hb dX9_most_27 (by decide) (fun c27_3 => ?_) (fun c27_3 => ?_)
        · skip
          refine lv_iload_n hx hb dX9_most_35 rfl (lv_at hl 3 rfl) ?_
          refine lv_istore_n (lv' := [(2, .int fo), (5, .int (m_by f n rr d 0)), (0, .ref x), (1, .int (nI d)), (3, .int ms), (4, .int (nI rr))]) hx hb dX9_most_36 rfl hl (by decide) rfl (fun ls hl => ?_)
          have hls := hl.1
          refine lv_iload hx hb dX9_most_37 (lv_at hl 1 rfl) ?_
          refine lv_iload_n hx hb dX9_most_39 rfl (lv_at hl 4 rfl) ?_
          refine lv_icmp_le (tgt := 48) hx hb dX9_most_40 (by decide) (fun c40_4 => ?_) (fun c40_4 => ?_)
          · skip
            refine lv_iload_n hx hb dX9_most_48 rfl (lv_at hl 4 rfl) ?_
            refine lv_istore_n (lv' := [(3, .int ms), (2, .int fo), (5, .int (m_by f n rr d 0)), (0, .ref x), (1, .int (nI d)), (4, .int (nI rr))]) hx hb dX9_most_49 rfl hl (by decide) rfl (fun ls hl => ?_)
            have hls := hl.1
            refine lv_iinc (v := nI (rr + 1)) (lv' := [(4, .int (nI (rr + 1))), (3, .int ms), (2, .int fo), (5, .int (m_by f n rr d 0)), (0, .ref x), (1, .int (nI d))]) hx hb dX9_most_50 hl (k := 5) rfl (zx_add rfl rfl) (by decide) rfl (fun ls hl => ?_)
            have hls := hl.1
            refine lv_goto (tgt := 7) hx hb dX9_most_53 (by decide) ?_
            exact ih7 (rr + 1) (by omega) (by omega) _ _ _ _ (by rw [m_mostL, ← hfm]; simp only [if_neg c11_0, if_pos c27_3, if_pos c40_4]) _ _ hW hS _ (lv_sub hl [4, 5, 2, 1, 0] rfl)
          · exact absurd c27_3 c40_4
        · skip
          refine lv_iload hx hb dX9_most_30 (lv_at hl 5 rfl) ?_
          refine lv_goto (tgt := 36) hx hb dX9_most_32 (by decide) ?_
          refine lv_istore_n (lv' := [(2, .int (nI rr)), (5, .int (m_by f n rr d 0)), (0, .ref x), (1, .int (nI d)), (3, .int ms), (4, .int (nI rr))]) hx hb dX9_most_36 rfl hl (by decide) rfl (fun ls hl => ?_)
          have hls := hl.1
          refine lv_iload hx hb dX9_most_37 (lv_at hl 1 rfl) ?_
          refine lv_iload_n hx hb dX9_most_39 rfl (lv_at hl 4 rfl) ?_
          refine lv_icmp_le (tgt := 48) hx hb dX9_most_40 (by decide) (fun c40_5 => ?_) (fun c40_5 => ?_)
          · exact absurd c40_5 c27_3
          · skip
            refine lv_iload hx hb dX9_most_43 (lv_at hl 1 rfl) ?_
            refine lv_goto (tgt := 49) hx hb dX9_most_45 (by decide) ?_
            refine lv_istore_n (lv' := [(3, .int (m_by f n rr d 0)), (2, .int (nI rr)), (5, .int (m_by f n rr d 0)), (0, .ref x), (1, .int (nI d)), (4, .int (nI rr))]) hx hb dX9_most_49 rfl hl (by decide) rfl (fun ls hl => ?_)
            have hls := hl.1
            refine lv_iinc (v := nI (rr + 1)) (lv' := [(4, .int (nI (rr + 1))), (3, .int (m_by f n rr d 0)), (2, .int (nI rr)), (5, .int (m_by f n rr d 0)), (0, .ref x), (1, .int (nI d))]) hx hb dX9_most_50 hl (k := 5) rfl (zx_add rfl rfl) (by decide) rfl (fun ls hl => ?_)
            have hls := hl.1
            refine lv_goto (tgt := 7) hx hb dX9_most_53 (by decide) ?_
            exact ih7 (rr + 1) (by omega) (by omega) _ _ _ _ (by rw [m_mostL, ← hfm]; simp only [if_neg c11_0, if_neg c27_3, if_neg c40_5]) _ _ hW hS _ (lv_sub hl [4, 5, 2, 1, 0] rfl)
  exact hj7 (6 + 1) (0) (by omega) (by omega) _ _ _ _ rfl _ _ hW hS _ (lv_sub hl [3, 4, 2, 1, 0] rfl)

abbrev rm_X9_bestReach_bad : Room := { frames := 1, cells := 0, slots := 0, locals := 22 }
set_option maxHeartbeats 4000000 in
set_option maxRecDepth 100000 in
theorem m_X9_bestReach_bad (l : Launch) (g : zG) (x a0 a1 a2 a3 a4 a5 a6 : Nat) (k ty at_ tl : Nat) (thr val : Int32) (bF bC : Bool) (q : Int32) (hbad : m_in q 1 60 = false) (sz : Nat) : zWR l yX9_bestReach cX9_bestReach 2 (Option.some Jvm.ClassFile.FieldType.int) rm_X9_bestReach_bad g [.ref x, .int q] ([[(x, .inr (12, [.ref a0, .ref a1, .ref a2, .int (nI k), .ref a3, .ref a4, .ref a5, .int (nI ty), .int thr, .int (nI at_), .int (zb bF), .int val, .ref a6, .int (nI tl), .int (zb bC)]))]] : List va_W) 0 0 sz (fun zv gs' => zv = some (.int (0)) ∧ gs' = [[(x, .inr (12, [.ref a0, .ref a1, .ref a2, .int (nI k), .ref a3, .ref a4, .ref a5, .int (nI ty), .int 1, .int (nI at_), .int (zb bF), .int val, .ref a6, .int (nI tl), .int (zb bC)]))]]) := by
  refine zWR.start (by decide) (Nat.le_of_ble_eq_true rfl) ?_
  intro zp ze s zm zbl zmt zc ls A X hr hlocks hinn hl hAe hW hS hA hA0
  have hx := X.1
  have hb := X.2.1
  have hml := X.2.2.1
  have hown := X.2.2.2.1
  have hls := hl.1
  have hl : lv_has ls 2 [(0, .ref x), (1, .int q)] := hl
  refine lv_aload_n hx hb dX9_bestReach_0 rfl (lv_at hl 0 rfl) ?_
  refine lv_iconst (v := 0) hx hb dX9_bestReach_1 rfl ?_
  refine z_put X hW hS 0 0 rfl rfl zP_RX9_32_12 rfl rfl (Nat.le_of_ble_eq_true rfl) dX9_bestReach_2 (fun H locs hW hS => ?_)
  have hW : zW g A ([[(x, .inr (12, [.ref a0, .ref a1, .ref a2, .int (nI k), .ref a3, .ref a4, .ref a5, .int (nI ty), .int 0, .int (nI at_), .int (zb bF), .int val, .ref a6, .int (nI tl), .int (zb bC)]))]] : List va_W) H := hW
  refine lv_iload_n hx hb dX9_bestReach_5 rfl (lv_at hl 1 rfl) ?_
  refine lv_iconst (v := 1) hx hb dX9_bestReach_6 rfl ?_
  refine lv_bipush (v := 60) hx hb dX9_bestReach_7 (by decide) ?_
  refine zc_ro (zr_S (As := [.int q, .int 1, .int 60]) (rest := []) X (m_X9_in l g q 1 60) zL_RX9_36 trivial hS hA0 hls rfl (Nat.le_of_ble_eq_true rfl) ⟨rfl, rfl, Nat.le_of_ble_eq_true rfl, Nat.le_of_ble_eq_true rfl, (Nat.le_of_ble_eq_true rfl), (Nat.le_of_ble_eq_true rfl)⟩ dX9_bestReach_9) ?_
  refine zb_ifeq (tgt := 23) hx hb dX9_bestReach_12 (by decide) (fun c12_0 => ?_) (fun c12_0 => ?_)
  · skip
    refine lv_aload_n hx hb dX9_bestReach_23 rfl (lv_at hl 0 rfl) ?_
    refine lv_iconst (v := 1) hx hb dX9_bestReach_24 rfl ?_
    refine zc_wr (gc := [[(x, .inr (12, [.ref a0, .ref a1, .ref a2, .int (nI k), .ref a3, .ref a4, .ref a5, .int (nI ty), .int 0, .int (nI at_), .int (zb bF), .int val, .ref a6, .int (nI tl), .int (zb bC)]))]]) (gr := []) (zr_V (As := [.int 1]) (rest := []) X (m_X9_fails l g x a0 a1 a2 a3 a4 a5 a6 k ty at_ tl 0 val bF bC 1 _) zL_RX9_47 (ci := 12) rfl (hW.H.at 0 0 rfl rfl) (zW.pre (gc := [[(x, .inr (12, [.ref a0, .ref a1, .ref a2, .int (nI k), .ref a3, .ref a4, .ref a5, .int (nI ty), .int 0, .int (nI at_), .int (zb bF), .int val, .ref a6, .int (nI tl), .int (zb bC)]))]]) (gr := []) hW hA0) hS hA0 hls rfl (Nat.le_of_ble_eq_true rfl) ⟨rfl, rfl, Nat.le_of_ble_eq_true rfl, Nat.le_of_ble_eq_true rfl, (Nat.le_of_ble_eq_true rfl), (Nat.le_of_ble_eq_true rfl)⟩ dX9_bestReach_25) hW hS hA (fun v gc' H locs hpost hW hS => ?_)
    obtain ⟨rfl, rfl⟩ := hpost
    have hW : zW g A ([[(x, .inr (12, [.ref a0, .ref a1, .ref a2, .int (nI k), .ref a3, .ref a4, .ref a5, .int (nI ty), .int 1, .int (nI at_), .int (zb bF), .int val, .ref a6, .int (nI tl), .int (zb bC)]))]] : List va_W) H := hW
    refine W.eq (g2 := F0 zm 28 ls [.int 0]) rfl ?_
    refine zWR.iret X hAe hW hS hr hlocks ?_ (Nat.le_of_ble_eq_true rfl) (Nat.le_of_ble_eq_true rfl) dX9_bestReach_28
    exact ⟨rfl, rfl⟩
  · exact absurd (hbad.symm.trans c12_0) (by decide)

abbrev rm_X9_bestReach_ok : Room := { frames := 9, cells := 0, slots := 0, locals := 208 }
set_option maxHeartbeats 4000000 in
set_option maxRecDepth 100000 in
theorem m_X9_bestReach_ok (l : Launch) (g : zG) (x a0 a1 a2 a3 a4 a5 a6 : Nat) (k ty at_ tl : Nat) (thr val : Int32) (bF bC : Bool) (f t : Nat → Int32) (d n : Nat) (hn : n ≤ 4) (h6 : f 6 = nI n) (hla : m_allOk f n) (hd1 : 1 ≤ d) (hd : d ≤ 60) (sz : Nat) : zWR l yX9_bestReach cX9_bestReach 2 (Option.some Jvm.ClassFile.FieldType.int) rm_X9_bestReach_ok g [.ref x, .int (nI d)] ([[(x, .inr (12, [.ref a0, .ref a1, .ref a2, .int (nI k), .ref a3, .ref a4, .ref a5, .int (nI ty), .int thr, .int (nI at_), .int (zb bF), .int val, .ref a6, .int (nI tl), .int (zb bC)]))], [(a0, .inl (g.2.1 0, 89, .inl f))], [(a1, .inl (g.2.1 0, 89, .inl t))]] : List va_W) 0 0 sz (fun zv gs' => ∃ (bc : Bool) (t' : Nat → Int32), zv = some (.int (m_most f n d)) ∧ gs' = [[(x, .inr (12, [.ref a0, .ref a1, .ref a2, .int (nI k), .ref a3, .ref a4, .ref a5, .int (nI ty), .int 0, .int (nI at_), .int (zb bF), .int val, .ref a6, .int (nI tl), .int (zb bc)]))], [(a0, .inl (g.2.1 0, 89, .inl f))], [(a1, .inl (g.2.1 0, 89, .inl t'))]]) := by
  refine zWR.start (by decide) (Nat.le_of_ble_eq_true rfl) ?_
  intro zp ze s zm zbl zmt zc ls A X hr hlocks hinn hl hAe hW hS hA hA0
  have hx := X.1
  have hb := X.2.1
  have hml := X.2.2.1
  have hown := X.2.2.2.1
  have hls := hl.1
  have hl : lv_has ls 2 [(0, .ref x), (1, .int (nI d))] := hl
  refine lv_aload_n hx hb dX9_bestReach_0 rfl (lv_at hl 0 rfl) ?_
  refine lv_iconst (v := 0) hx hb dX9_bestReach_1 rfl ?_
  refine z_put X hW hS 0 0 rfl rfl zP_RX9_32_12 rfl rfl (Nat.le_of_ble_eq_true rfl) dX9_bestReach_2 (fun H locs hW hS => ?_)
  have hW : zW g A ([[(x, .inr (12, [.ref a0, .ref a1, .ref a2, .int (nI k), .ref a3, .ref a4, .ref a5, .int (nI ty), .int 0, .int (nI at_), .int (zb bF), .int val, .ref a6, .int (nI tl), .int (zb bC)]))], [(a0, .inl (g.2.1 0, 89, .inl f))], [(a1, .inl (g.2.1 0, 89, .inl t))]] : List va_W) H := hW
  refine lv_iload_n hx hb dX9_bestReach_5 rfl (lv_at hl 1 rfl) ?_
  refine lv_iconst (v := 1) hx hb dX9_bestReach_6 rfl ?_
  refine lv_bipush (v := 60) hx hb dX9_bestReach_7 (by decide) ?_
  refine zc_ro (zr_S (As := [.int (nI d), .int 1, .int 60]) (rest := []) X (m_X9_in l g (nI d) 1 60) zL_RX9_36 trivial hS hA0 hls rfl (Nat.le_of_ble_eq_true rfl) ⟨rfl, rfl, Nat.le_of_ble_eq_true rfl, Nat.le_of_ble_eq_true rfl, (Nat.le_of_ble_eq_true rfl), (Nat.le_of_ble_eq_true rfl)⟩ dX9_bestReach_9) ?_
  refine zb_ifeq (tgt := 23) hx hb dX9_bestReach_12 (by decide) (fun c12_0 => ?_) (fun c12_0 => ?_)
  · exact absurd ((m_in_T (a := 1) (b := 60) rfl rfl rfl (by omega) (by omega) (by decide)).symm.trans c12_0) (by decide)
  · skip
    refine lv_aload_n hx hb dX9_bestReach_15 rfl (lv_at hl 0 rfl) ?_
    refine lv_iload_n hx hb dX9_bestReach_16 rfl (lv_at hl 1 rfl) ?_
    refine zc_wr (gc := [[(x, .inr (12, [.ref a0, .ref a1, .ref a2, .int (nI k), .ref a3, .ref a4, .ref a5, .int (nI ty), .int 0, .int (nI at_), .int (zb bF), .int val, .ref a6, .int (nI tl), .int (zb bC)]))], [(a0, .inl (g.2.1 0, 89, .inl f))], [(a1, .inl (g.2.1 0, 89, .inl t))]]) (gr := []) (zr_V (As := [.int (nI d)]) (rest := []) X (m_X9_most l g x a0 a1 a2 a3 a4 a5 a6 k ty at_ tl 0 val bF bC f t d n (by omega) (by omega) (by first | exact h6c | exact h6 | (simp (disch := omega) only [upd_n]; first | exact h6c | exact h6)) hla _) zL_RX9_227 (ci := 12) rfl (hW.H.at 0 0 rfl rfl) (zW.pre (gc := [[(x, .inr (12, [.ref a0, .ref a1, .ref a2, .int (nI k), .ref a3, .ref a4, .ref a5, .int (nI ty), .int 0, .int (nI at_), .int (zb bF), .int val, .ref a6, .int (nI tl), .int (zb bC)]))], [(a0, .inl (g.2.1 0, 89, .inl f))], [(a1, .inl (g.2.1 0, 89, .inl t))]]) (gr := []) hW hA0) hS hA0 hls rfl (Nat.le_of_ble_eq_true rfl) ⟨rfl, rfl, Nat.le_of_ble_eq_true rfl, Nat.le_of_ble_eq_true rfl, (Nat.le_of_ble_eq_true rfl), (Nat.le_of_ble_eq_true rfl)⟩ dX9_bestReach_17) hW hS hA (fun v gc' H locs hpost hW hS => ?_)
    obtain ⟨bc2, t3, rfl, rfl⟩ := hpost
    have hW : zW g A ([[(x, .inr (12, [.ref a0, .ref a1, .ref a2, .int (nI k), .ref a3, .ref a4, .ref a5, .int (nI ty), .int 0, .int (nI at_), .int (zb bF), .int val, .ref a6, .int (nI tl), .int (zb bc2)]))], [(a0, .inl (g.2.1 0, 89, .inl f))], [(a1, .inl (g.2.1 0, 89, .inl t3))]] : List va_W) H := hW
    refine W.eq (g2 := F0 zm 20 ls [.int (m_most f n d)]) rfl ?_
    refine lv_goto (tgt := 28) hx hb dX9_bestReach_20 (by decide) ?_
    refine zWR.iret X hAe hW hS hr hlocks ?_ (Nat.le_of_ble_eq_true rfl) (Nat.le_of_ble_eq_true rfl) dX9_bestReach_28
    exact ⟨_, _, rfl, rfl⟩

abbrev rm_X9_share : Room := { frames := 2, cells := 0, slots := 0, locals := 44 }
set_option maxHeartbeats 4000000 in
set_option maxRecDepth 100000 in
theorem m_X9_share (l : Launch) (g : zG) (x a0 a1 a2 a3 a4 a5 a6 : Nat) (k ty at_ tl : Nat) (thr val : Int32) (bF bC : Bool) (f : Nat → Int32)  : zRO l yX9_share cX9_share 2 (Option.some Jvm.ClassFile.FieldType.double) rm_X9_share g [.ref x] (fun H => zH g ([[(x, .inr (12, [.ref a0, .ref a1, .ref a2, .int (nI k), .ref a3, .ref a4, .ref a5, .int (nI ty), .int thr, .int (nI at_), .int (zb bF), .int val, .ref a6, .int (nI tl), .int (zb bC)]))], [(a0, .inl (g.2.1 0, 89, .inl f))]] : List va_W) H) (.double (m_share f)) := by
  refine zRO.start (by decide) (Nat.le_of_ble_eq_true rfl) ?_
  intro zp ze s zm zbl zmt zc ls X hr hlocks hP hl hS hA0
  have hx := X.1
  have hb := X.2.1
  have hml := X.2.2.1
  have hown := X.2.2.2.1
  have hls := hl.1
  have hl : lv_has ls 2 [(0, .ref x)] := hl
  refine lv_aload_n hx hb dX9_share_0 rfl (lv_at hl 0 rfl) ?_
  refine z_get X (hP.at 0 0 rfl rfl) zF_RX9_7_12 rfl dX9_share_1 ?_
  refine zc_ro (zr_S (As := [.ref a0]) (rest := []) X (m_X9_raised l g a0 f) zL_RX9_203 (zH.cons (va_P.one (hP.at 1 0 rfl rfl)) zH.nil) hS hA0 hls rfl (Nat.le_of_ble_eq_true rfl) ⟨rfl, rfl, Nat.le_of_ble_eq_true rfl, Nat.le_of_ble_eq_true rfl, (Nat.le_of_ble_eq_true rfl), (Nat.le_of_ble_eq_true rfl)⟩ dX9_share_4) ?_
  refine lv_istore_n (lv' := [(1, .int (m_sumR f 1 6)), (0, .ref x)]) hx hb dX9_share_7 rfl hl (by decide) rfl (fun ls hl => ?_)
  have hls := hl.1
  refine lv_iload_n hx hb dX9_share_8 rfl (lv_at hl 0 rfl) ?_
  refine lv_if_ne (tgt := 16) hx hb dX9_share_9 (by decide) (fun c9_0 => ?_) (fun c9_0 => ?_)
  · skip
    refine lv_aload_n hx hb dX9_share_16 rfl (lv_at hl 1 rfl) ?_
    refine z_get X (hP.at 0 0 rfl rfl) zF_RX9_7_12 rfl dX9_share_17 ?_
    refine zc_ro (zr_S (As := [.ref a0]) (rest := []) X (m_X9_onMeadows l g a0 f) zL_RX9_141 (zH.cons (va_P.one (hP.at 1 0 rfl rfl)) zH.nil) hS hA0 hls rfl (Nat.le_of_ble_eq_true rfl) ⟨rfl, rfl, Nat.le_of_ble_eq_true rfl, Nat.le_of_ble_eq_true rfl, (Nat.le_of_ble_eq_true rfl), (Nat.le_of_ble_eq_true rfl)⟩ dX9_share_20) ?_
    refine lv_i2d hx hb dX9_share_23 ?_
    refine lv_iload_n hx hb dX9_share_24 rfl (lv_at hl 0 rfl) ?_
    refine lv_i2d hx hb dX9_share_25 ?_
    refine lv_ddiv hx hb dX9_share_26 (fd_n64 (fd_div c9_0)) ?_
    refine zRO.dret X hr hlocks ?_ dX9_share_27
    simp only [m_share, if_neg c9_0]
  · skip
    refine lv_dconst1 hx hb dX9_share_12 ?_
    refine lv_goto (tgt := 27) hx hb dX9_share_13 (by decide) ?_
    refine zRO.dret X hr hlocks ?_ dX9_share_27
    simp only [m_share, if_pos c9_0]

abbrev rm_X9_laidShare : Room := { frames := 3, cells := 0, slots := 0, locals := 65 }
set_option maxHeartbeats 4000000 in
set_option maxRecDepth 100000 in
theorem m_X9_laidShare (l : Launch) (g : zG) (x a0 a1 a2 a3 a4 a5 a6 : Nat) (k ty at_ tl : Nat) (thr val : Int32) (bF bC : Bool) (f : Nat → Int32)  (sz : Nat) : zWR l yX9_laidShare cX9_laidShare 1 (Option.some Jvm.ClassFile.FieldType.double) rm_X9_laidShare g [.ref x] ([[(x, .inr (12, [.ref a0, .ref a1, .ref a2, .int (nI k), .ref a3, .ref a4, .ref a5, .int (nI ty), .int thr, .int (nI at_), .int (zb bF), .int val, .ref a6, .int (nI tl), .int (zb bC)]))], [(a0, .inl (g.2.1 0, 89, .inl f))]] : List va_W) 0 0 sz (fun zv gs' => zv = some (.double (m_share f)) ∧ gs' = [[(x, .inr (12, [.ref a0, .ref a1, .ref a2, .int (nI k), .ref a3, .ref a4, .ref a5, .int (nI ty), .int 0, .int (nI at_), .int (zb bF), .int val, .ref a6, .int (nI tl), .int (zb bC)]))], [(a0, .inl (g.2.1 0, 89, .inl f))]]) := by
  refine zWR.start (by decide) (Nat.le_of_ble_eq_true rfl) ?_
  intro zp ze s zm zbl zmt zc ls A X hr hlocks hinn hl hAe hW hS hA hA0
  have hx := X.1
  have hb := X.2.1
  have hml := X.2.2.1
  have hown := X.2.2.2.1
  have hls := hl.1
  have hl : lv_has ls 1 [(0, .ref x)] := hl
  refine lv_aload_n hx hb dX9_laidShare_0 rfl (lv_at hl 0 rfl) ?_
  refine lv_iconst (v := 0) hx hb dX9_laidShare_1 rfl ?_
  refine z_put X hW hS 0 0 rfl rfl zP_RX9_32_12 rfl rfl (Nat.le_of_ble_eq_true rfl) dX9_laidShare_2 (fun H locs hW hS => ?_)
  have hW : zW g A ([[(x, .inr (12, [.ref a0, .ref a1, .ref a2, .int (nI k), .ref a3, .ref a4, .ref a5, .int (nI ty), .int 0, .int (nI at_), .int (zb bF), .int val, .ref a6, .int (nI tl), .int (zb bC)]))], [(a0, .inl (g.2.1 0, 89, .inl f))]] : List va_W) H := hW
  refine lv_aload_n hx hb dX9_laidShare_5 rfl (lv_at hl 0 rfl) ?_
  refine zc_ro (zr_V (As := []) (rest := []) X (m_X9_share l g x a0 a1 a2 a3 a4 a5 a6 k ty at_ tl 0 val bF bC f) zL_RX9_230 (ci := 12) rfl (hW.H.at 0 0 rfl rfl) (zH.cons (va_P.one (hW.H.at 0 0 rfl rfl)) (zH.cons (va_P.one (hW.H.at 1 0 rfl rfl)) zH.nil)) hS hA0 hls rfl (Nat.le_of_ble_eq_true rfl) ⟨rfl, rfl, Nat.le_of_ble_eq_true rfl, Nat.le_of_ble_eq_true rfl, (Nat.le_of_ble_eq_true rfl), (Nat.le_of_ble_eq_true rfl)⟩ dX9_laidShare_6) ?_
  refine zWR.dret X hAe hW hS hr hlocks ?_ (Nat.le_of_ble_eq_true rfl) (Nat.le_of_ble_eq_true rfl) dX9_laidShare_9
  exact ⟨rfl, rfl⟩

abbrev rm_J23_isNaN : Room := { frames := 0, cells := 0, slots := 0, locals := 0 }
set_option maxHeartbeats 4000000 in
set_option maxRecDepth 100000 in
theorem m_J23_isNaN (l : Launch) (g : zG) (v : UInt64) (hv : fd_ok v) : zRO l yJ23_isNaN cJ23_isNaN 2 (Option.some Jvm.ClassFile.FieldType.boolean) rm_J23_isNaN g [.double v] (fun _ => True) (.int 0) := by
  refine zRO.start (by decide) (Nat.le_of_ble_eq_true rfl) ?_
  intro zp ze s zm zbl zmt zc ls X hr hlocks hP hl hS hA0
  have hx := X.1
  have hb := X.2.1
  have hml := X.2.2.1
  have hown := X.2.2.2.1
  have hls := hl.1
  have hl : lv_has ls 2 [(0, .double v)] := hl
  refine lv_dload_n hx hb dJ23_isNaN_0 rfl (lv_at hl 0 rfl) ?_
  refine lv_dload_n hx hb dJ23_isNaN_1 rfl (lv_at hl 0 rfl) ?_
  refine lv_dcmp hx hb dJ23_isNaN_2 ?_
  refine z_stk (b := [.int 0]) (by rw [show (Op.cmpValue (FP.dcmp v v) .l) = 0 from by rw [fd_self hv]; rfl]) ?_
  refine lv_if_eq (tgt := 10) hx hb dJ23_isNaN_3 (by decide) (fun c3_0 => ?_) (fun c3_0 => ?_)
  · skip
    refine lv_iconst (v := 0) hx hb dJ23_isNaN_10 rfl ?_
    refine zRO.zret X hr rfl hlocks ?_ dJ23_isNaN_11
    rfl
  · exact absurd c3_0 (by decide)

abbrev rm_J23_doubleToLongBits : Room := { frames := 1, cells := 0, slots := 0, locals := 21 }
set_option maxHeartbeats 4000000 in
set_option maxRecDepth 100000 in
theorem m_J23_doubleToLongBits (l : Launch) (g : zG) (v : UInt64) (hv : fd_ok v) : zRO l yJ23_doubleToLongBits cJ23_doubleToLongBits 2 (Option.some Jvm.ClassFile.FieldType.long) rm_J23_doubleToLongBits g [.double v] (fun _ => True) (.long v.toInt64) := by
  refine zRO.start (by decide) (Nat.le_of_ble_eq_true rfl) ?_
  intro zp ze s zm zbl zmt zc ls X hr hlocks hP hl hS hA0
  have hx := X.1
  have hb := X.2.1
  have hml := X.2.2.1
  have hown := X.2.2.2.1
  have hls := hl.1
  have hl : lv_has ls 2 [(0, .double v)] := hl
  refine lv_dload_n hx hb dJ23_doubleToLongBits_0 rfl (lv_at hl 0 rfl) ?_
  refine zc_ro (zr_S (As := [.double v]) (rest := []) X (m_J23_isNaN l g v hv) zL_RJ23_122 trivial hS hA0 hls rfl (Nat.le_of_ble_eq_true rfl) ⟨rfl, rfl, Nat.le_of_ble_eq_true rfl, Nat.le_of_ble_eq_true rfl, (Nat.le_of_ble_eq_true rfl), (Nat.le_of_ble_eq_true rfl)⟩ dJ23_doubleToLongBits_1) ?_
  refine lv_if_ne (tgt := 12) hx hb dJ23_doubleToLongBits_4 (by decide) (fun c4_0 => ?_) (fun c4_0 => ?_)
  · exact absurd c4_0 (by decide)
  · skip
    refine lv_dload_n hx hb dJ23_doubleToLongBits_7 rfl (lv_at hl 0 rfl) ?_
    refine vn_d2l hx hb (by rw [hml]; exact hls.symm) hown (X.w q1245) (X.w q1247) (X.w q1246) (X.w q111) (Nat.le_of_ble_eq_true rfl) (Nat.le_of_ble_eq_true rfl) dJ23_doubleToLongBits_8 ?_
    refine zRO.lret X hr hlocks ?_ dJ23_doubleToLongBits_11
    rfl
