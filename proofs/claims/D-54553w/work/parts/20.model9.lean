set_option maxRecDepth 100000
theorem zL_RX9_191 : zLV RX9 191 RX9 yX9_does cX9_does 3 (Option.some Jvm.ClassFile.FieldType.boolean) 1 := ⟨.inl q1858, q1860, qs63, q103, rfl, q1861, ⟨by decide +kernel, by decide +kernel, by decide +kernel⟩⟩
abbrev rm_X9_does : Room := { frames := 7, cells := 0, slots := 0, locals := 160 }
set_option maxHeartbeats 4000000 in
set_option maxRecDepth 100000 in
theorem m_X9_does (l : Launch) (g : zG) (x a0 a1 a2 a3 a4 a5 a6 : Nat) (k ty at_ tl : Nat) (thr val : Int32) (bF bC : Bool) (f to : Nat → Int32) (q n r : Nat) (so a b : Int32) (hq : q < 30) (hso : to (3 * q) = so) (ha : to (3 * q + 1) = a) (hbb : so = 98 ∨ so = 120 → to (3 * q + 2) = b) (hnum : w_num so a) (hn : n ≤ 4) (h6 : f 6 = nI n) (hr6 : r < 6) (h5 : f 5 = nI r) (hlays6 : ∀ j, j < 60 → m_layOk (m_days f n r j) n) (sz : Nat) : zWR l yX9_does cX9_does 3 (Option.some Jvm.ClassFile.FieldType.boolean) rm_X9_does g [.ref x, .int (nI q)] ([[(x, .inr (12, [.ref a0, .ref a1, .ref a2, .int (nI k), .ref a3, .ref a4, .ref a5, .int (nI ty), .int thr, .int (nI at_), .int (zb bF), .int val, .ref a6, .int (nI tl), .int (zb bC)]))], [(a0, .inl (g.2.1 0, 89, .inl f))], [(a6, .inl (g.2.1 0, 93, .inl to))]] : List va_W) 0 0 sz (fun zv gs' => ∃ bc, zv = some (.int (zb (w_step f so a b).1)) ∧ gs' = [[(x, .inr (12, [.ref a0, .ref a1, .ref a2, .int (nI k), .ref a3, .ref a4, .ref a5, .int (nI ty), .int thr, .int (nI at_), .int (zb bF), .int val, .ref a6, .int (nI tl), .int (zb bc)]))], [(a0, .inl (g.2.1 0, 89, .inl ((w_step f so a b).2)))], [(a6, .inl (g.2.1 0, 93, .inl to))]]) := by
  refine zWR.start (by decide) (Nat.le_of_ble_eq_true rfl) ?_
  intro zp ze s zm zbl zmt zc ls A X hr hlocks hinn hl hAe hW hS hA hA0
  have hx := X.1
  have hb := X.2.1
  have hml := X.2.2.1
  have hown := X.2.2.2.1
  have hls := hl.1
  have hl : lv_has ls 3 [(0, .ref x), (1, .int (nI q))] := hl
  refine lv_aload_n hx hb dX9_does_0 rfl (lv_at hl 0 rfl) ?_
  refine z_get X (hW.H.at 0 0 rfl rfl) zF_RX9_29_12 rfl dX9_does_1 ?_
  refine lv_iconst (v := 3) hx hb dX9_does_4 rfl ?_
  refine lv_iload_n hx hb dX9_does_5 rfl (lv_at hl 1 rfl) ?_
  refine lv_imul hx hb dX9_does_6 ?_
  refine lv_iconst (v := 1) hx hb dX9_does_7 rfl ?_
  refine lv_iadd hx hb dX9_does_8 ?_
  refine z_iald X (j := (3 * q) + 1) (hW.H.at 2 0 rfl rfl) (zx_add (zx_mul rfl rfl) rfl) (by omega) (by decide) dX9_does_9 ?_
  refine z_stk (b := [.int a]) (by rw [show (to ((3 * q) + 1)) = a from ha]) ?_
  refine lv_istore_n (lv' := [(2, .int a), (0, .ref x), (1, .int (nI q))]) hx hb dX9_does_10 rfl hl (by decide) rfl (fun ls hl => ?_)
  have hls := hl.1
  refine lv_aload_n hx hb dX9_does_11 rfl (lv_at hl 1 rfl) ?_
  refine z_get X (hW.H.at 0 0 rfl rfl) zF_RX9_29_12 rfl dX9_does_12 ?_
  refine lv_iconst (v := 3) hx hb dX9_does_15 rfl ?_
  refine lv_iload_n hx hb dX9_does_16 rfl (lv_at hl 2 rfl) ?_
  refine lv_imul hx hb dX9_does_17 ?_
  refine z_iald X (j := 3 * q) (hW.H.at 2 0 rfl rfl) (zx_mul rfl rfl) (by omega) (by decide) dX9_does_18 ?_
  refine z_stk (b := [.int so]) (by rw [show (to (3 * q)) = so from hso]) ?_
  by_cases sw19_98 : so = 98
  · refine z_stk (b := [.int 98]) (by rw [sw19_98]) ?_
    refine lv_lookup (off := 33) (tgt := 52) hx hb dX9_does_19 (by decide) (by decide) (by decide) ?_
    obtain ⟨q1, hq1, hae⟩ := hnum.1 sw19_98
    have hac : a.toNatClampNeg = q1 := by rw [hae]; exact nI_clamp (by omega)
    refine lv_aload_n hx hb dX9_does_52 rfl (lv_at hl 1 rfl) ?_
    refine lv_iload_n hx hb dX9_does_53 rfl (lv_at hl 0 rfl) ?_
    refine zc_ro (zr_V (As := [.int a]) (rest := []) X (m_X9_isBarge l g x a0 a1 a2 a3 a4 a5 a6 k ty at_ tl thr val bF bC f a n (by first | exact h6c | exact h6 | (simp (disch := omega) only [upd_n]; first | exact h6c | exact h6))) zL_RX9_118 (ci := 12) rfl (hW.H.at 0 0 rfl rfl) (zH.cons (va_P.one (hW.H.at 0 0 rfl rfl)) (zH.cons (va_P.one (hW.H.at 1 0 rfl rfl)) zH.nil)) hS hA0 hls rfl (Nat.le_of_ble_eq_true rfl) ⟨rfl, rfl, Nat.le_of_ble_eq_true rfl, Nat.le_of_ble_eq_true rfl, (Nat.le_of_ble_eq_true rfl), (Nat.le_of_ble_eq_true rfl)⟩ dX9_does_54) ?_
    refine zb_ifne (tgt := 62) hx hb dX9_does_57 (by decide) (fun c57_0 => ?_) (fun c57_0 => ?_)
    · skip
      have hq4 : q1 < 4 := by
        have hz := c57_0
        rw [hae, m_in_lt (by omega) (by omega)] at hz
        have := of_decide_eq_true hz
        omega
      refine lv_aload_n hx hb dX9_does_62 rfl (lv_at hl 1 rfl) ?_
      refine lv_bipush (v := 26) hx hb dX9_does_63 (by decide) ?_
      refine lv_bipush (v := 7) hx hb dX9_does_65 (by decide) ?_
      refine lv_iload_n hx hb dX9_does_67 rfl (lv_at hl 0 rfl) ?_
      refine lv_imul hx hb dX9_does_68 ?_
      refine lv_iadd hx hb dX9_does_69 ?_
      refine lv_iconst (v := 5) hx hb dX9_does_70 rfl ?_
      refine lv_iadd hx hb dX9_does_71 ?_
      refine lv_aload_n hx hb dX9_does_72 rfl (lv_at hl 1 rfl) ?_
      refine z_get X (hW.H.at 0 0 rfl rfl) zF_RX9_29_12 rfl dX9_does_73 ?_
      refine lv_iconst (v := 3) hx hb dX9_does_76 rfl ?_
      refine lv_iload_n hx hb dX9_does_77 rfl (lv_at hl 2 rfl) ?_
      refine lv_imul hx hb dX9_does_78 ?_
      refine lv_iconst (v := 2) hx hb dX9_does_79 rfl ?_
      refine lv_iadd hx hb dX9_does_80 ?_
      refine z_iald X (j := (3 * q) + 2) (hW.H.at 2 0 rfl rfl) (zx_add (zx_mul rfl rfl) rfl) (by omega) (by decide) dX9_does_81 ?_
      refine z_stk (b := [.int b, .int ((26 + (7 * a)) + 5), .ref x]) (by rw [show (to ((3 * q) + 2)) = b from (hbb (Or.inl sw19_98))]) ?_
      refine z_stk (b := [.int b, .int (nI ((26 + (7 * q1)) + 5)), .ref x]) (by rw [show ((26 + (7 * a)) + 5) = nI ((26 + (7 * q1)) + 5) from zx_add (zx_add rfl (zx_mul rfl hae)) rfl]) ?_
      refine zc_wr (gc := [[(x, .inr (12, [.ref a0, .ref a1, .ref a2, .int (nI k), .ref a3, .ref a4, .ref a5, .int (nI ty), .int thr, .int (nI at_), .int (zb bF), .int val, .ref a6, .int (nI tl), .int (zb bC)]))], [(a0, .inl (g.2.1 0, 89, .inl f))]]) (gr := [[(a6, .inl (g.2.1 0, 93, .inl to))]]) (zr_V (As := [.int (nI ((26 + (7 * q1)) + 5)), .int b]) (rest := []) X (m_X9_changes l g x a0 a1 a2 a3 a4 a5 a6 k ty at_ tl thr val bF bC f ((26 + (7 * q1)) + 5) b (by omega) _) zL_RX9_122 (ci := 12) rfl (hW.H.at 0 0 rfl rfl) (zW.pre (gc := [[(x, .inr (12, [.ref a0, .ref a1, .ref a2, .int (nI k), .ref a3, .ref a4, .ref a5, .int (nI ty), .int thr, .int (nI at_), .int (zb bF), .int val, .ref a6, .int (nI tl), .int (zb bC)]))], [(a0, .inl (g.2.1 0, 89, .inl f))]]) (gr := [[(a6, .inl (g.2.1 0, 93, .inl to))]]) hW hA0) hS hA0 hls rfl (Nat.le_of_ble_eq_true rfl) ⟨rfl, rfl, Nat.le_of_ble_eq_true rfl, Nat.le_of_ble_eq_true rfl, (Nat.le_of_ble_eq_true rfl), (Nat.le_of_ble_eq_true rfl)⟩ dX9_does_82) hW hS hA (fun v gc' H locs hpost hW hS => ?_)
      obtain ⟨rfl, rfl⟩ := hpost
      have hW : zW g A ([[(x, .inr (12, [.ref a0, .ref a1, .ref a2, .int (nI k), .ref a3, .ref a4, .ref a5, .int (nI ty), .int thr, .int (nI at_), .int (zb bF), .int val, .ref a6, .int (nI tl), .int (zb bC)]))], [(a0, .inl (g.2.1 0, 89, .inl (upd f ((26 + (7 * q1)) + 5) b)))], [(a6, .inl (g.2.1 0, 93, .inl to))]] : List va_W) H := hW
      refine W.eq (g2 := F0 zm 85 ls [.int (f ((26 + (7 * q1)) + 5))]) rfl ?_
      refine lv_pop hx hb dX9_does_85 rfl ?_
      refine lv_iconst (v := 1) hx hb dX9_does_86 rfl ?_
      refine zWR.zret X hAe hW hS hr rfl hlocks ?_ (Nat.le_of_ble_eq_true rfl) (Nat.le_of_ble_eq_true rfl) dX9_does_87
      have hnc : (f 6).toNatClampNeg = n := by rw [h6]; exact nI_clamp (by omega)
      have hrc : (f 5).toNatClampNeg = r := by rw [h5]; exact nI_clamp (by omega)
      have hz := c57_0
      rw [hae, m_in_lt (by omega) (by omega)] at hz
      simp only [decide_eq_true_eq, decide_eq_false_iff_not] at hz
      have e : w_step f so a b = (true, upd f (26 + 7 * q1 + 5) b) := by unfold w_step; rw [if_pos sw19_98, hac, hnc, if_pos hz]
      rw [e]
      exact ⟨_, rfl, rfl⟩
    · skip
      refine lv_iconst (v := 0) hx hb dX9_does_60 rfl ?_
      refine zWR.zret X hAe hW hS hr rfl hlocks ?_ (Nat.le_of_ble_eq_true rfl) (Nat.le_of_ble_eq_true rfl) dX9_does_61
      have hnc : (f 6).toNatClampNeg = n := by rw [h6]; exact nI_clamp (by omega)
      have hrc : (f 5).toNatClampNeg = r := by rw [h5]; exact nI_clamp (by omega)
      have hz := c57_0
      rw [hae, m_in_lt (by omega) (by omega)] at hz
      simp only [decide_eq_true_eq, decide_eq_false_iff_not] at hz
      have e : w_step f so a b = (false, f) := by unfold w_step; rw [if_pos sw19_98, hac, hnc, if_neg hz]
      rw [e]
      exact ⟨_, rfl, rfl⟩
  by_cases sw19_109 : so = 109
  · refine z_stk (b := [.int 109]) (by rw [sw19_109]) ?_
    refine lv_lookup (off := 69) (tgt := 88) hx hb dX9_does_19 (by decide) (by decide) (by decide) ?_
    obtain ⟨q1, hq1, hae⟩ := hnum.2.1 sw19_109
    have hac : a.toNatClampNeg = q1 := by rw [hae]; exact nI_clamp (by omega)
    refine lv_aload_n hx hb dX9_does_88 rfl (lv_at hl 1 rfl) ?_
    refine lv_iconst (v := 5) hx hb dX9_does_89 rfl ?_
    refine lv_iload_n hx hb dX9_does_90 rfl (lv_at hl 0 rfl) ?_
    refine zc_wr (gc := [[(x, .inr (12, [.ref a0, .ref a1, .ref a2, .int (nI k), .ref a3, .ref a4, .ref a5, .int (nI ty), .int thr, .int (nI at_), .int (zb bF), .int val, .ref a6, .int (nI tl), .int (zb bC)]))], [(a0, .inl (g.2.1 0, 89, .inl f))]]) (gr := [[(a6, .inl (g.2.1 0, 93, .inl to))]]) (zr_V (As := [.int 5, .int a]) (rest := []) X (m_X9_changes l g x a0 a1 a2 a3 a4 a5 a6 k ty at_ tl thr val bF bC f 5 a (by omega) _) zL_RX9_122 (ci := 12) rfl (hW.H.at 0 0 rfl rfl) (zW.pre (gc := [[(x, .inr (12, [.ref a0, .ref a1, .ref a2, .int (nI k), .ref a3, .ref a4, .ref a5, .int (nI ty), .int thr, .int (nI at_), .int (zb bF), .int val, .ref a6, .int (nI tl), .int (zb bC)]))], [(a0, .inl (g.2.1 0, 89, .inl f))]]) (gr := [[(a6, .inl (g.2.1 0, 93, .inl to))]]) hW hA0) hS hA0 hls rfl (Nat.le_of_ble_eq_true rfl) ⟨rfl, rfl, Nat.le_of_ble_eq_true rfl, Nat.le_of_ble_eq_true rfl, (Nat.le_of_ble_eq_true rfl), (Nat.le_of_ble_eq_true rfl)⟩ dX9_does_91) hW hS hA (fun v gc' H locs hpost hW hS => ?_)
    obtain ⟨rfl, rfl⟩ := hpost
    have hW : zW g A ([[(x, .inr (12, [.ref a0, .ref a1, .ref a2, .int (nI k), .ref a3, .ref a4, .ref a5, .int (nI ty), .int thr, .int (nI at_), .int (zb bF), .int val, .ref a6, .int (nI tl), .int (zb bC)]))], [(a0, .inl (g.2.1 0, 89, .inl (upd f 5 a)))], [(a6, .inl (g.2.1 0, 93, .inl to))]] : List va_W) H := hW
    refine W.eq (g2 := F0 zm 94 ls [.int (f 5)]) rfl ?_
    refine lv_pop hx hb dX9_does_94 rfl ?_
    refine lv_iconst (v := 1) hx hb dX9_does_95 rfl ?_
    refine zWR.zret X hAe hW hS hr rfl hlocks ?_ (Nat.le_of_ble_eq_true rfl) (Nat.le_of_ble_eq_true rfl) dX9_does_96
    have hnc : (f 6).toNatClampNeg = n := by rw [h6]; exact nI_clamp (by omega)
    have hrc : (f 5).toNatClampNeg = r := by rw [h5]; exact nI_clamp (by omega)
    have e : w_step f so a b = (true, upd f 5 a) := by unfold w_step; rw [if_neg sw19_98, if_pos sw19_109]
    rw [e]
    exact ⟨_, rfl, rfl⟩
  by_cases sw19_120 : so = 120
  · refine z_stk (b := [.int 120]) (by rw [sw19_120]) ?_
    refine lv_lookup (off := 78) (tgt := 97) hx hb dX9_does_19 (by decide) (by decide) (by decide) ?_
    obtain ⟨q1, hq1, hae⟩ := hnum.2.2.1 sw19_120
    have hac : a.toNatClampNeg = q1 := by rw [hae]; exact nI_clamp (by omega)
    refine lv_aload_n hx hb dX9_does_97 rfl (lv_at hl 1 rfl) ?_
    refine lv_iload_n hx hb dX9_does_98 rfl (lv_at hl 0 rfl) ?_
    refine lv_aload_n hx hb dX9_does_99 rfl (lv_at hl 1 rfl) ?_
    refine z_get X (hW.H.at 0 0 rfl rfl) zF_RX9_29_12 rfl dX9_does_100 ?_
    refine lv_iconst (v := 3) hx hb dX9_does_103 rfl ?_
    refine lv_iload_n hx hb dX9_does_104 rfl (lv_at hl 2 rfl) ?_
    refine lv_imul hx hb dX9_does_105 ?_
    refine lv_iconst (v := 2) hx hb dX9_does_106 rfl ?_
    refine lv_iadd hx hb dX9_does_107 ?_
    refine z_iald X (j := (3 * q) + 2) (hW.H.at 2 0 rfl rfl) (zx_add (zx_mul rfl rfl) rfl) (by omega) (by decide) dX9_does_108 ?_
    refine z_stk (b := [.int b, .int a, .ref x]) (by rw [show (to ((3 * q) + 2)) = b from (hbb (Or.inr sw19_120))]) ?_
    refine z_stk (b := [.int b, .int (nI q1), .ref x]) (by rw [show (a) = nI q1 from hae]) ?_
    refine zc_wr (gc := [[(x, .inr (12, [.ref a0, .ref a1, .ref a2, .int (nI k), .ref a3, .ref a4, .ref a5, .int (nI ty), .int thr, .int (nI at_), .int (zb bF), .int val, .ref a6, .int (nI tl), .int (zb bC)]))], [(a0, .inl (g.2.1 0, 89, .inl f))]]) (gr := [[(a6, .inl (g.2.1 0, 93, .inl to))]]) (zr_V (As := [.int (nI q1), .int b]) (rest := []) X (m_X9_stopsFor l g x a0 a1 a2 a3 a4 a5 a6 k ty at_ tl thr val bF bC f q1 b (by omega) _) zL_RX9_135 (ci := 12) rfl (hW.H.at 0 0 rfl rfl) (zW.pre (gc := [[(x, .inr (12, [.ref a0, .ref a1, .ref a2, .int (nI k), .ref a3, .ref a4, .ref a5, .int (nI ty), .int thr, .int (nI at_), .int (zb bF), .int val, .ref a6, .int (nI tl), .int (zb bC)]))], [(a0, .inl (g.2.1 0, 89, .inl f))]]) (gr := [[(a6, .inl (g.2.1 0, 93, .inl to))]]) hW hA0) hS hA0 hls rfl (Nat.le_of_ble_eq_true rfl) ⟨rfl, rfl, Nat.le_of_ble_eq_true rfl, Nat.le_of_ble_eq_true rfl, (Nat.le_of_ble_eq_true rfl), (Nat.le_of_ble_eq_true rfl)⟩ dX9_does_109) hW hS hA (fun v gc' H locs hpost hW hS => ?_)
    obtain ⟨rfl, rfl⟩ := hpost
    have hW : zW g A ([[(x, .inr (12, [.ref a0, .ref a1, .ref a2, .int (nI k), .ref a3, .ref a4, .ref a5, .int (nI ty), .int thr, .int (nI at_), .int (zb bF), .int val, .ref a6, .int (nI tl), .int (zb bC)]))], [(a0, .inl (g.2.1 0, 89, .inl (m_stops f q1 b)))], [(a6, .inl (g.2.1 0, 93, .inl to))]] : List va_W) H := hW
    refine W.eq (g2 := F0 zm 112 ls [.int (m_stFor (m_stops f q1 b) q1)]) rfl ?_
    refine lv_pop hx hb dX9_does_112 rfl ?_
    refine lv_iconst (v := 1) hx hb dX9_does_113 rfl ?_
    refine zWR.zret X hAe hW hS hr rfl hlocks ?_ (Nat.le_of_ble_eq_true rfl) (Nat.le_of_ble_eq_true rfl) dX9_does_114
    have hnc : (f 6).toNatClampNeg = n := by rw [h6]; exact nI_clamp (by omega)
    have hrc : (f 5).toNatClampNeg = r := by rw [h5]; exact nI_clamp (by omega)
    have e : w_step f so a b = (true, m_stops f q1 b) := by unfold w_step; rw [if_neg sw19_98, if_neg sw19_109, if_pos sw19_120, hac]
    rw [e]
    exact ⟨_, rfl, rfl⟩
  refine lv_lookup (off := 96) (tgt := 115) hx hb dX9_does_19 (by decide) ((lv_osw sw19_98 (by decide)).trans ((lv_osw sw19_109 (by decide)).trans ((lv_osw sw19_120 (by decide)).trans rfl))) (by decide) ?_
  obtain ⟨q1, hq0, hq1, hae⟩ := hnum.2.2.2 sw19_98 sw19_109 sw19_120
  have hac : a.toNatClampNeg = q1 := by rw [hae]; exact nI_clamp (by omega)
  refine lv_aload_n hx hb dX9_does_115 rfl (lv_at hl 1 rfl) ?_
  refine lv_iload_n hx hb dX9_does_116 rfl (lv_at hl 0 rfl) ?_
  refine zc_ro (zr_V (As := [.int a]) (rest := []) X (m_X9_mayPass l g x a0 a1 a2 a3 a4 a5 a6 k ty at_ tl thr val bF bC f a) zL_RX9_138 (ci := 12) rfl (hW.H.at 0 0 rfl rfl) (zH.cons (va_P.one (hW.H.at 0 0 rfl rfl)) (zH.cons (va_P.one (hW.H.at 1 0 rfl rfl)) zH.nil)) hS hA0 hls rfl (Nat.le_of_ble_eq_true rfl) ⟨rfl, rfl, Nat.le_of_ble_eq_true rfl, Nat.le_of_ble_eq_true rfl, (Nat.le_of_ble_eq_true rfl), (Nat.le_of_ble_eq_true rfl)⟩ dX9_does_117) ?_
  refine zb_ifne (tgt := 125) hx hb dX9_does_120 (by decide) (fun c120_1 => ?_) (fun c120_1 => ?_)
  · skip
    have hlays : ∀ j, j < q1 → m_layOk (m_days f n r j) n := fun j hj => hlays6 j (by omega)
    refine lv_aload_n hx hb dX9_does_125 rfl (lv_at hl 1 rfl) ?_
    refine lv_aload_n hx hb dX9_does_126 rfl (lv_at hl 1 rfl) ?_
    refine z_get X (hW.H.at 0 0 rfl rfl) zF_RX9_7_12 rfl dX9_does_127 ?_
    refine lv_iload_n hx hb dX9_does_130 rfl (lv_at hl 0 rfl) ?_
    refine z_stk (b := [.int (nI q1), .ref a0, .ref x]) (by rw [show (a) = nI q1 from hae]) ?_
    refine zc_wr (gc := [[(x, .inr (12, [.ref a0, .ref a1, .ref a2, .int (nI k), .ref a3, .ref a4, .ref a5, .int (nI ty), .int thr, .int (nI at_), .int (zb bF), .int val, .ref a6, .int (nI tl), .int (zb bC)]))], [(a0, .inl (g.2.1 0, 89, .inl f))]]) (gr := [[(a6, .inl (g.2.1 0, 93, .inl to))]]) (zr_V (As := [.ref a0, .int (nI q1)]) (rest := []) X (m_X9_days l g x a0 a1 a2 a3 a4 a5 a6 k ty at_ tl thr val bF bC a0 f q1 n r (by omega) (by omega) (by first | exact h6c | exact h6 | (simp (disch := omega) only [upd_n]; first | exact h6c | exact h6)) (by omega) (by first | exact h5c | exact h5 | (simp (disch := omega) only [upd_n]; first | exact h5c | exact h5)) hlays _) zL_RX9_144 (ci := 12) rfl (hW.H.at 0 0 rfl rfl) (zW.pre (gc := [[(x, .inr (12, [.ref a0, .ref a1, .ref a2, .int (nI k), .ref a3, .ref a4, .ref a5, .int (nI ty), .int thr, .int (nI at_), .int (zb bF), .int val, .ref a6, .int (nI tl), .int (zb bC)]))], [(a0, .inl (g.2.1 0, 89, .inl f))]]) (gr := [[(a6, .inl (g.2.1 0, 93, .inl to))]]) hW hA0) hS hA0 hls rfl (Nat.le_of_ble_eq_true rfl) ⟨rfl, rfl, Nat.le_of_ble_eq_true rfl, Nat.le_of_ble_eq_true rfl, (Nat.le_of_ble_eq_true rfl), (Nat.le_of_ble_eq_true rfl)⟩ dX9_does_131) hW hS hA (fun v gc' H locs hpost hW hS => ?_)
    obtain ⟨bc, rfl, rfl⟩ := hpost
    have hW : zW g A ([[(x, .inr (12, [.ref a0, .ref a1, .ref a2, .int (nI k), .ref a3, .ref a4, .ref a5, .int (nI ty), .int thr, .int (nI at_), .int (zb bF), .int val, .ref a6, .int (nI tl), .int (zb bc)]))], [(a0, .inl (g.2.1 0, 89, .inl (m_days f n r q1)))], [(a6, .inl (g.2.1 0, 93, .inl to))]] : List va_W) H := hW
    refine W.eq (g2 := F0 zm 134 ls []) rfl ?_
    refine lv_iconst (v := 1) hx hb dX9_does_134 rfl ?_
    refine zWR.zret X hAe hW hS hr rfl hlocks ?_ (Nat.le_of_ble_eq_true rfl) (Nat.le_of_ble_eq_true rfl) dX9_does_135
    have hnc : (f 6).toNatClampNeg = n := by rw [h6]; exact nI_clamp (by omega)
    have hrc : (f 5).toNatClampNeg = r := by rw [h5]; exact nI_clamp (by omega)
    have e : w_step f so a b = (true, m_days f n r q1) := by unfold w_step; rw [if_neg sw19_98, if_neg sw19_109, if_neg sw19_120]; rw [if_pos c120_1, hnc, hrc, hac]
    rw [e]
    exact ⟨_, rfl, rfl⟩
  · skip
    refine lv_iconst (v := 0) hx hb dX9_does_123 rfl ?_
    refine zWR.zret X hAe hW hS hr rfl hlocks ?_ (Nat.le_of_ble_eq_true rfl) (Nat.le_of_ble_eq_true rfl) dX9_does_124
    have hnc : (f 6).toNatClampNeg = n := by rw [h6]; exact nI_clamp (by omega)
    have hrc : (f 5).toNatClampNeg = r := by rw [h5]; exact nI_clamp (by omega)
    have e : w_step f so a b = (false, f) := by unfold w_step; rw [if_neg sw19_98, if_neg sw19_109, if_neg sw19_120]; rw [if_neg (by rw [c120_1]; decide)]
    rw [e]
    exact ⟨_, rfl, rfl⟩

abbrev rm_X9_work_bad : Room := { frames := 6, cells := 0, slots := 0, locals := 128 }
set_option maxHeartbeats 4000000 in
set_option maxRecDepth 100000 in
theorem m_X9_work_bad (l : Launch) (g : zG) (x a0 a1 a2 a3 a4 a5 a6 : Nat) (k ty at_ tl : Nat) (thr val : Int32) (bF bC : Bool) (tx to : Nat → Int32) (t : Nat) (hty : ty ≤ 60) (hend0 : p_end tx ty t) (hbad : (p_ok tx ty (p_pos tx ty t) && decide (p_j tx ty (p_pos tx ty t) = ty)) = false) (sz : Nat) : zWR l yX9_work cX9_work 2 (Option.some Jvm.ClassFile.FieldType.int) rm_X9_work_bad g [.ref x] ([[(x, .inr (12, [.ref a0, .ref a1, .ref a2, .int (nI k), .ref a3, .ref a4, .ref a5, .int (nI ty), .int thr, .int (nI at_), .int (zb bF), .int val, .ref a6, .int (nI tl), .int (zb bC)]))], [(a5, .inl (g.2.1 0, 60, .inl tx))], [(a6, .inl (g.2.1 0, 93, .inl to))]] : List va_W) 0 0 sz (fun zv gs' => ∃ (at' tl' : Nat) (bF' : Bool) (to' : Nat → Int32) (val' : Int32), zv = some (.int 0) ∧ gs' = [[(x, .inr (12, [.ref a0, .ref a1, .ref a2, .int (nI k), .ref a3, .ref a4, .ref a5, .int (nI ty), .int 1, .int (nI at'), .int (zb bF'), .int val', .ref a6, .int (nI tl'), .int (zb bC)]))], [(a5, .inl (g.2.1 0, 60, .inl tx))], [(a6, .inl (g.2.1 0, 93, .inl to'))]]) := by
  refine zWR.start (by decide) (Nat.le_of_ble_eq_true rfl) ?_
  intro zp ze s zm zbl zmt zc ls A X hr hlocks hinn hl hAe hW hS hA hA0
  have hx := X.1
  have hb := X.2.1
  have hml := X.2.2.1
  have hown := X.2.2.2.1
  have hls := hl.1
  have hl : lv_has ls 2 [(0, .ref x)] := hl
  refine lv_aload_n hx hb dX9_work_0 rfl (lv_at hl 0 rfl) ?_
  refine lv_iconst (v := 0) hx hb dX9_work_1 rfl ?_
  refine z_put X hW hS 0 0 rfl rfl zP_RX9_32_12 rfl rfl (Nat.le_of_ble_eq_true rfl) dX9_work_2 (fun H locs hW hS => ?_)
  have hW : zW g A ([[(x, .inr (12, [.ref a0, .ref a1, .ref a2, .int (nI k), .ref a3, .ref a4, .ref a5, .int (nI ty), .int 0, .int (nI at_), .int (zb bF), .int val, .ref a6, .int (nI tl), .int (zb bC)]))], [(a5, .inl (g.2.1 0, 60, .inl tx))], [(a6, .inl (g.2.1 0, 93, .inl to))]] : List va_W) H := hW
  refine lv_aload_n hx hb dX9_work_5 rfl (lv_at hl 0 rfl) ?_
  refine zc_wr (gc := [[(x, .inr (12, [.ref a0, .ref a1, .ref a2, .int (nI k), .ref a3, .ref a4, .ref a5, .int (nI ty), .int 0, .int (nI at_), .int (zb bF), .int val, .ref a6, .int (nI tl), .int (zb bC)]))], [(a5, .inl (g.2.1 0, 60, .inl tx))], [(a6, .inl (g.2.1 0, 93, .inl to))]]) (gr := []) (zr_V (As := []) (rest := []) X (m_X9_isText l g x a0 a1 a2 a3 a4 a5 a6 k ty at_ tl 0 val bF bC tx to (by omega) _) zL_RX9_188 (ci := 12) rfl (hW.H.at 0 0 rfl rfl) (zW.pre (gc := [[(x, .inr (12, [.ref a0, .ref a1, .ref a2, .int (nI k), .ref a3, .ref a4, .ref a5, .int (nI ty), .int 0, .int (nI at_), .int (zb bF), .int val, .ref a6, .int (nI tl), .int (zb bC)]))], [(a5, .inl (g.2.1 0, 60, .inl tx))], [(a6, .inl (g.2.1 0, 93, .inl to))]]) (gr := []) hW hA0) hS hA0 hls rfl (Nat.le_of_ble_eq_true rfl) ⟨rfl, rfl, Nat.le_of_ble_eq_true rfl, Nat.le_of_ble_eq_true rfl, (Nat.le_of_ble_eq_true rfl), (Nat.le_of_ble_eq_true rfl)⟩ dX9_work_6) hW hS hA (fun v gc' H locs hpost hW hS => ?_)
  obtain ⟨u, tlu, tou, valu, hend, rfl, rfl, hto⟩ := hpost
  have hW : zW g A ([[(x, .inr (12, [.ref a0, .ref a1, .ref a2, .int (nI k), .ref a3, .ref a4, .ref a5, .int (nI ty), .int 0, .int (nI (p_j tx ty (p_pos tx ty u))), .int (zb (decide (p_j tx ty (p_pos tx ty u) < ty))), .int valu, .ref a6, .int (nI tlu), .int (zb bC)]))], [(a5, .inl (g.2.1 0, 60, .inl tx))], [(a6, .inl (g.2.1 0, 93, .inl tou))]] : List va_W) H := hW
  refine W.eq (g2 := F0 zm 9 ls [.int (zb (p_ok tx ty (p_pos tx ty u) && decide (p_j tx ty (p_pos tx ty u) = ty)))]) rfl ?_
  refine zb_ifne (tgt := 18) hx hb dX9_work_9 (by decide) (fun c9_0 => ?_) (fun c9_0 => ?_)
  · exact absurd c9_0 (by rw [p_end_uniq hend hend0, hbad]; decide)
  · skip
    refine lv_aload_n hx hb dX9_work_12 rfl (lv_at hl 0 rfl) ?_
    refine lv_iconst (v := 1) hx hb dX9_work_13 rfl ?_
    refine zc_wr (gc := [[(x, .inr (12, [.ref a0, .ref a1, .ref a2, .int (nI k), .ref a3, .ref a4, .ref a5, .int (nI ty), .int 0, .int (nI (p_j tx ty (p_pos tx ty u))), .int (zb (decide (p_j tx ty (p_pos tx ty u) < ty))), .int valu, .ref a6, .int (nI tlu), .int (zb bC)]))]]) (gr := [[(a5, .inl (g.2.1 0, 60, .inl tx))], [(a6, .inl (g.2.1 0, 93, .inl tou))]]) (zr_V (As := [.int 1]) (rest := []) X (m_X9_fails l g x a0 a1 a2 a3 a4 a5 a6 k ty (p_j tx ty (p_pos tx ty u)) tlu 0 valu (decide (p_j tx ty (p_pos tx ty u) < ty)) bC 1 _) zL_RX9_47 (ci := 12) rfl (hW.H.at 0 0 rfl rfl) (zW.pre (gc := [[(x, .inr (12, [.ref a0, .ref a1, .ref a2, .int (nI k), .ref a3, .ref a4, .ref a5, .int (nI ty), .int 0, .int (nI (p_j tx ty (p_pos tx ty u))), .int (zb (decide (p_j tx ty (p_pos tx ty u) < ty))), .int valu, .ref a6, .int (nI tlu), .int (zb bC)]))]]) (gr := [[(a5, .inl (g.2.1 0, 60, .inl tx))], [(a6, .inl (g.2.1 0, 93, .inl tou))]]) hW hA0) hS hA0 hls rfl (Nat.le_of_ble_eq_true rfl) ⟨rfl, rfl, Nat.le_of_ble_eq_true rfl, Nat.le_of_ble_eq_true rfl, (Nat.le_of_ble_eq_true rfl), (Nat.le_of_ble_eq_true rfl)⟩ dX9_work_14) hW hS hA (fun v gc' H locs hpost hW hS => ?_)
    obtain ⟨rfl, rfl⟩ := hpost
    have hW : zW g A ([[(x, .inr (12, [.ref a0, .ref a1, .ref a2, .int (nI k), .ref a3, .ref a4, .ref a5, .int (nI ty), .int 1, .int (nI (p_j tx ty (p_pos tx ty u))), .int (zb (decide (p_j tx ty (p_pos tx ty u) < ty))), .int valu, .ref a6, .int (nI tlu), .int (zb bC)]))], [(a5, .inl (g.2.1 0, 60, .inl tx))], [(a6, .inl (g.2.1 0, 93, .inl tou))]] : List va_W) H := hW
    refine W.eq (g2 := F0 zm 17 ls [.int 0]) rfl ?_
    refine zWR.iret X hAe hW hS hr hlocks ?_ (Nat.le_of_ble_eq_true rfl) (Nat.le_of_ble_eq_true rfl) dX9_work_17
    exact ⟨_, _, _, _, _, rfl, rfl⟩

abbrev rm_X9_work_ok : Room := { frames := 8, cells := 0, slots := 0, locals := 182 }
set_option maxHeartbeats 4000000 in
set_option maxRecDepth 100000 in
theorem m_X9_work_ok (l : Launch) (g : zG) (x a0 a1 a2 a3 a4 a5 a6 : Nat) (k ty at_ tl : Nat) (thr val : Int32) (bF bC : Bool) (f pa tx to : Nat → Int32) (t : Nat) (hty : ty ≤ 60) (hk : k ≤ 6) (hend0 : p_end tx ty t) (hgood : (p_ok tx ty (p_pos tx ty t) && decide (p_j tx ty (p_pos tx ty t) = ty)) = true) (hfit : ∀ s, s < t + 1 → (∀ i, i < s → w_suc tx ty f i = true) → ∃ n r, w_fit (w_st tx ty f s) n r) (sz : Nat) : zWR l yX9_work cX9_work 2 (Option.some Jvm.ClassFile.FieldType.int) rm_X9_work_ok g [.ref x] ([[(x, .inr (12, [.ref a0, .ref a1, .ref a2, .int (nI k), .ref a3, .ref a4, .ref a5, .int (nI ty), .int thr, .int (nI at_), .int (zb bF), .int val, .ref a6, .int (nI tl), .int (zb bC)]))], [(a0, .inl (g.2.1 0, 89, .inl f))], [(a2, .inl (g.2.1 0, 534, .inl pa))], [(a5, .inl (g.2.1 0, 60, .inl tx))], [(a6, .inl (g.2.1 0, 93, .inl to))]] : List va_W) 0 0 sz (fun zv gs' => ∃ (s : Nat) (bc : Bool), ∃ (at' tl' : Nat) (bF' : Bool) (to' : Nat → Int32) (val' : Int32), w_done tx ty f (t + 1) s ∧ zv = some (.int (nI s)) ∧ gs' = [[(x, .inr (12, [.ref a0, .ref a1, .ref a2, .int (nI (m_sk k + 1)), .ref a3, .ref a4, .ref a5, .int 0, .int 0, .int (nI at'), .int (zb bF'), .int val', .ref a6, .int (nI tl'), .int (zb bc)]))], [(a0, .inl (g.2.1 0, 89, .inl (w_st tx ty f s)))], [(a2, .inl (g.2.1 0, 534, .inl (m_save f k pa)))], [(a5, .inl (g.2.1 0, 60, .inl tx))], [(a6, .inl (g.2.1 0, 93, .inl to'))]]) := by
  refine zWR.start (by decide) (Nat.le_of_ble_eq_true rfl) ?_
  intro zp ze s zm zbl zmt zc ls A X hr hlocks hinn hl hAe hW hS hA hA0
  have hx := X.1
  have hb := X.2.1
  have hml := X.2.2.1
  have hown := X.2.2.2.1
  have hls := hl.1
  have hl : lv_has ls 2 [(0, .ref x)] := hl
  refine lv_aload_n hx hb dX9_work_0 rfl (lv_at hl 0 rfl) ?_
  refine lv_iconst (v := 0) hx hb dX9_work_1 rfl ?_
  refine z_put X hW hS 0 0 rfl rfl zP_RX9_32_12 rfl rfl (Nat.le_of_ble_eq_true rfl) dX9_work_2 (fun H locs hW hS => ?_)
  have hW : zW g A ([[(x, .inr (12, [.ref a0, .ref a1, .ref a2, .int (nI k), .ref a3, .ref a4, .ref a5, .int (nI ty), .int 0, .int (nI at_), .int (zb bF), .int val, .ref a6, .int (nI tl), .int (zb bC)]))], [(a0, .inl (g.2.1 0, 89, .inl f))], [(a2, .inl (g.2.1 0, 534, .inl pa))], [(a5, .inl (g.2.1 0, 60, .inl tx))], [(a6, .inl (g.2.1 0, 93, .inl to))]] : List va_W) H := hW
  refine lv_aload_n hx hb dX9_work_5 rfl (lv_at hl 0 rfl) ?_
  have hW := hW.perm (gs' := ([[(x, .inr (12, [.ref a0, .ref a1, .ref a2, .int (nI k), .ref a3, .ref a4, .ref a5, .int (nI ty), .int 0, .int (nI at_), .int (zb bF), .int val, .ref a6, .int (nI tl), .int (zb bC)]))], [(a5, .inl (g.2.1 0, 60, .inl tx))], [(a6, .inl (g.2.1 0, 93, .inl to))], [(a0, .inl (g.2.1 0, 89, .inl f))], [(a2, .inl (g.2.1 0, 534, .inl pa))]] : List va_W)) [0, 3, 4, 1, 2] 5 rfl (by decide) rfl
  refine zc_wr (gc := [[(x, .inr (12, [.ref a0, .ref a1, .ref a2, .int (nI k), .ref a3, .ref a4, .ref a5, .int (nI ty), .int 0, .int (nI at_), .int (zb bF), .int val, .ref a6, .int (nI tl), .int (zb bC)]))], [(a5, .inl (g.2.1 0, 60, .inl tx))], [(a6, .inl (g.2.1 0, 93, .inl to))]]) (gr := [[(a0, .inl (g.2.1 0, 89, .inl f))], [(a2, .inl (g.2.1 0, 534, .inl pa))]]) (zr_V (As := []) (rest := []) X (m_X9_isText l g x a0 a1 a2 a3 a4 a5 a6 k ty at_ tl 0 val bF bC tx to (by omega) _) zL_RX9_188 (ci := 12) rfl (hW.H.at 0 0 rfl rfl) (zW.pre (gc := [[(x, .inr (12, [.ref a0, .ref a1, .ref a2, .int (nI k), .ref a3, .ref a4, .ref a5, .int (nI ty), .int 0, .int (nI at_), .int (zb bF), .int val, .ref a6, .int (nI tl), .int (zb bC)]))], [(a5, .inl (g.2.1 0, 60, .inl tx))], [(a6, .inl (g.2.1 0, 93, .inl to))]]) (gr := [[(a0, .inl (g.2.1 0, 89, .inl f))], [(a2, .inl (g.2.1 0, 534, .inl pa))]]) hW hA0) hS hA0 hls rfl (Nat.le_of_ble_eq_true rfl) ⟨rfl, rfl, Nat.le_of_ble_eq_true rfl, Nat.le_of_ble_eq_true rfl, (Nat.le_of_ble_eq_true rfl), (Nat.le_of_ble_eq_true rfl)⟩ dX9_work_6) hW hS hA (fun v gc' H locs hpost hW hS => ?_)
  obtain ⟨u, tlu, tou, valu, hend, rfl, rfl, hto⟩ := hpost
  have hW : zW g A ([[(x, .inr (12, [.ref a0, .ref a1, .ref a2, .int (nI k), .ref a3, .ref a4, .ref a5, .int (nI ty), .int 0, .int (nI (p_j tx ty (p_pos tx ty u))), .int (zb (decide (p_j tx ty (p_pos tx ty u) < ty))), .int valu, .ref a6, .int (nI tlu), .int (zb bC)]))], [(a5, .inl (g.2.1 0, 60, .inl tx))], [(a6, .inl (g.2.1 0, 93, .inl tou))], [(a0, .inl (g.2.1 0, 89, .inl f))], [(a2, .inl (g.2.1 0, 534, .inl pa))]] : List va_W) H := hW
  refine W.eq (g2 := F0 zm 9 ls [.int (zb (p_ok tx ty (p_pos tx ty u) && decide (p_j tx ty (p_pos tx ty u) = ty)))]) rfl ?_
  refine zb_ifne (tgt := 18) hx hb dX9_work_9 (by decide) (fun c9_0 => ?_) (fun c9_0 => ?_)
  · skip
    have et := p_end_uniq hend hend0
    have hok : p_ok tx ty (p_pos tx ty u) = true := by have h := c9_0; simp only [Bool.and_eq_true] at h; exact h.1
    obtain ⟨htl, htd⟩ := hto hok
    have hle := p_end_le hend
    refine lv_aload_n hx hb dX9_work_18 rfl (lv_at hl 0 rfl) ?_
    have hW := hW.perm (gs' := ([[(x, .inr (12, [.ref a0, .ref a1, .ref a2, .int (nI k), .ref a3, .ref a4, .ref a5, .int (nI ty), .int 0, .int (nI (p_j tx ty (p_pos tx ty u))), .int (zb (decide (p_j tx ty (p_pos tx ty u) < ty))), .int valu, .ref a6, .int (nI tlu), .int (zb bC)]))], [(a0, .inl (g.2.1 0, 89, .inl f))], [(a2, .inl (g.2.1 0, 534, .inl pa))], [(a5, .inl (g.2.1 0, 60, .inl tx))], [(a6, .inl (g.2.1 0, 93, .inl tou))]] : List va_W)) [0, 3, 4, 1, 2] 5 rfl (by decide) rfl
    refine zc_wr (gc := [[(x, .inr (12, [.ref a0, .ref a1, .ref a2, .int (nI k), .ref a3, .ref a4, .ref a5, .int (nI ty), .int 0, .int (nI (p_j tx ty (p_pos tx ty u))), .int (zb (decide (p_j tx ty (p_pos tx ty u) < ty))), .int valu, .ref a6, .int (nI tlu), .int (zb bC)]))], [(a0, .inl (g.2.1 0, 89, .inl f))], [(a2, .inl (g.2.1 0, 534, .inl pa))]]) (gr := [[(a5, .inl (g.2.1 0, 60, .inl tx))], [(a6, .inl (g.2.1 0, 93, .inl tou))]]) (zr_V (As := []) (rest := []) X (m_X9_saves l g x a0 a1 a2 a3 a4 a5 a6 k ty (p_j tx ty (p_pos tx ty u)) tlu 0 valu (decide (p_j tx ty (p_pos tx ty u) < ty)) bC f pa hk _) zL_RX9_51 (ci := 12) rfl (hW.H.at 0 0 rfl rfl) (zW.pre (gc := [[(x, .inr (12, [.ref a0, .ref a1, .ref a2, .int (nI k), .ref a3, .ref a4, .ref a5, .int (nI ty), .int 0, .int (nI (p_j tx ty (p_pos tx ty u))), .int (zb (decide (p_j tx ty (p_pos tx ty u) < ty))), .int valu, .ref a6, .int (nI tlu), .int (zb bC)]))], [(a0, .inl (g.2.1 0, 89, .inl f))], [(a2, .inl (g.2.1 0, 534, .inl pa))]]) (gr := [[(a5, .inl (g.2.1 0, 60, .inl tx))], [(a6, .inl (g.2.1 0, 93, .inl tou))]]) hW hA0) hS hA0 hls rfl (Nat.le_of_ble_eq_true rfl) ⟨rfl, rfl, Nat.le_of_ble_eq_true rfl, Nat.le_of_ble_eq_true rfl, (Nat.le_of_ble_eq_true rfl), (Nat.le_of_ble_eq_true rfl)⟩ dX9_work_19) hW hS hA (fun v gc' H locs hpost hW hS => ?_)
    obtain ⟨rfl, rfl⟩ := hpost
    have hW : zW g A ([[(x, .inr (12, [.ref a0, .ref a1, .ref a2, .int (nI (m_sk k + 1)), .ref a3, .ref a4, .ref a5, .int (nI ty), .int 0, .int (nI (p_j tx ty (p_pos tx ty u))), .int (zb (decide (p_j tx ty (p_pos tx ty u) < ty))), .int valu, .ref a6, .int (nI tlu), .int (zb bC)]))], [(a0, .inl (g.2.1 0, 89, .inl f))], [(a2, .inl (g.2.1 0, 534, .inl (m_save f k pa)))], [(a5, .inl (g.2.1 0, 60, .inl tx))], [(a6, .inl (g.2.1 0, 93, .inl tou))]] : List va_W) H := hW
    refine W.eq (g2 := F0 zm 22 ls []) rfl ?_
    refine lv_aload_n hx hb dX9_work_22 rfl (lv_at hl 0 rfl) ?_
    refine lv_iconst (v := 0) hx hb dX9_work_23 rfl ?_
    refine z_put X hW hS 0 0 rfl rfl zP_RX9_151_12 rfl rfl (Nat.le_of_ble_eq_true rfl) dX9_work_24 (fun H locs hW hS => ?_)
    have hW : zW g A ([[(x, .inr (12, [.ref a0, .ref a1, .ref a2, .int (nI (m_sk k + 1)), .ref a3, .ref a4, .ref a5, .int 0, .int 0, .int (nI (p_j tx ty (p_pos tx ty u))), .int (zb (decide (p_j tx ty (p_pos tx ty u) < ty))), .int valu, .ref a6, .int (nI tlu), .int (zb bC)]))], [(a0, .inl (g.2.1 0, 89, .inl f))], [(a2, .inl (g.2.1 0, 534, .inl (m_save f k pa)))], [(a5, .inl (g.2.1 0, 60, .inl tx))], [(a6, .inl (g.2.1 0, 93, .inl tou))]] : List va_W) H := hW
    refine lv_iconst (v := 0) hx hb dX9_work_27 rfl ?_
    refine lv_istore_n (lv' := [(1, .int 0), (0, .ref x)]) hx hb dX9_work_28 rfl hl (by decide) rfl (fun ls hl => ?_)
    have hls := hl.1
    have hj29 : ∀ (zn j : Nat) (h_le : j ≤ tlu) (h_fu : tlu < j + zn) (bc : Bool) (c : Nat → Int32) (hc : c = w_st tx ty f j) (hsuc : ∀ i, i < j → w_suc tx ty f i = true) (H : Heap) (locs : List Loc), zW g A ([[(x, .inr (12, [.ref a0, .ref a1, .ref a2, .int (nI (m_sk k + 1)), .ref a3, .ref a4, .ref a5, .int 0, .int 0, .int (nI (p_j tx ty (p_pos tx ty u))), .int (zb (decide (p_j tx ty (p_pos tx ty u) < ty))), .int valu, .ref a6, .int (nI tlu), .int (zb bc)]))], [(a0, .inl (g.2.1 0, 89, .inl c))], [(a2, .inl (g.2.1 0, 534, .inl (m_save f k pa)))], [(a5, .inl (g.2.1 0, 60, .inl tx))], [(a6, .inl (g.2.1 0, 93, .inl tou))]] : List va_W) H → va_S A s.heap H locs → ∀ (ls : Array Slot), lv_has ls 2 [(0, .ref x), (1, .int (nI j))] → W zp l ze rm_X9_work_ok s zm ([.ref x] : List Value).toArray zbl zmt zc H locs 0 0 (MQ zbl (zQW g ([[(x, .inr (12, [.ref a0, .ref a1, .ref a2, .int (nI k), .ref a3, .ref a4, .ref a5, .int (nI ty), .int thr, .int (nI at_), .int (zb bF), .int val, .ref a6, .int (nI tl), .int (zb bC)]))], [(a0, .inl (g.2.1 0, 89, .inl f))], [(a2, .inl (g.2.1 0, 534, .inl pa))], [(a5, .inl (g.2.1 0, 60, .inl tx))], [(a6, .inl (g.2.1 0, 93, .inl to))]] : List va_W) (fun zv gs' => ∃ (s : Nat) (bc : Bool), ∃ (at' tl' : Nat) (bF' : Bool) (to' : Nat → Int32) (val' : Int32), w_done tx ty f (t + 1) s ∧ zv = some (.int (nI s)) ∧ gs' = [[(x, .inr (12, [.ref a0, .ref a1, .ref a2, .int (nI (m_sk k + 1)), .ref a3, .ref a4, .ref a5, .int 0, .int 0, .int (nI at'), .int (zb bF'), .int val', .ref a6, .int (nI tl'), .int (zb bc)]))], [(a0, .inl (g.2.1 0, 89, .inl (w_st tx ty f s)))], [(a2, .inl (g.2.1 0, 534, .inl (m_save f k pa)))], [(a5, .inl (g.2.1 0, 60, .inl tx))], [(a6, .inl (g.2.1 0, 93, .inl to'))]])) ([.ref x] : List Value).toArray s 0 0 A) (F0 zm 29 ls []) := by
      intro zn
      induction zn with
      | zero => intro j h_le h_fu; exact absurd h_fu (by omega)
      | succ zn ih29 =>
        intro j h_le h_fu bc c hc hsuc H locs hW hS ls hl
        have hls := hl.1
        refine lv_iload_n hx hb dX9_work_29 rfl (lv_at hl 1 rfl) ?_
        refine lv_aload_n hx hb dX9_work_30 rfl (lv_at hl 0 rfl) ?_
        refine z_get X (hW.H.at 0 0 rfl rfl) zF_RX9_167_12 rfl dX9_work_31 ?_
        refine lv_icmp_ge (tgt := 51) hx hb dX9_work_34 (by decide) (fun c34_1 => ?_) (fun c34_1 => ?_)
        · skip
          have kc34_1 := (zn_le (a := tlu) (b := j) rfl rfl (by omega) (by omega)).mp c34_1
          refine lv_iload_n hx hb dX9_work_51 rfl (lv_at hl 1 rfl) ?_
          refine zWR.iret X hAe hW hS hr hlocks ?_ (Nat.le_of_ble_eq_true rfl) (Nat.le_of_ble_eq_true rfl) dX9_work_52
          rw [hc]
          refine ⟨j, _, _, _, _, _, _, ⟨by omega, hsuc, Or.inl (by omega)⟩, rfl, rfl⟩
        · skip
          have kc34_1 := mt (zn_le (a := tlu) (b := j) rfl rfl (by omega) (by omega)).mpr c34_1
          obtain ⟨n, r, hn, h6c, hr6, h5c, hl6⟩ := hfit j (by omega) hsuc
          rw [← hc] at h6c h5c hl6
          obtain ⟨hso, ha, hbb⟩ := htd j (by omega)
          have hnum : w_num (p_sort tx ty (p_pos tx ty j)) (p_a tx ty (p_pos tx ty j)) := by
            rcases Nat.lt_or_ge j u with q | q
            · have := hend.1 j q
              unfold p_go at this
              simp only [Bool.and_eq_true] at this
              exact p_num this.1
            · rw [show j = u by omega]; exact p_num hok
          refine lv_aload_n hx hb dX9_work_37 rfl (lv_at hl 0 rfl) ?_
          refine lv_iload_n hx hb dX9_work_38 rfl (lv_at hl 1 rfl) ?_
          have hW := hW.perm (gs' := ([[(x, .inr (12, [.ref a0, .ref a1, .ref a2, .int (nI (m_sk k + 1)), .ref a3, .ref a4, .ref a5, .int 0, .int 0, .int (nI (p_j tx ty (p_pos tx ty u))), .int (zb (decide (p_j tx ty (p_pos tx ty u) < ty))), .int valu, .ref a6, .int (nI tlu), .int (zb bc)]))], [(a0, .inl (g.2.1 0, 89, .inl c))], [(a6, .inl (g.2.1 0, 93, .inl tou))], [(a2, .inl (g.2.1 0, 534, .inl (m_save f k pa)))], [(a5, .inl (g.2.1 0, 60, .inl tx))]] : List va_W)) [0, 1, 4, 2, 3] 5 rfl (by decide) rfl
          refine zc_wr (gc := [[(x, .inr (12, [.ref a0, .ref a1, .ref a2, .int (nI (m_sk k + 1)), .ref a3, .ref a4, .ref a5, .int 0, .int 0, .int (nI (p_j tx ty (p_pos tx ty u))), .int (zb (decide (p_j tx ty (p_pos tx ty u) < ty))), .int valu, .ref a6, .int (nI tlu), .int (zb bc)]))], [(a0, .inl (g.2.1 0, 89, .inl c))], [(a6, .inl (g.2.1 0, 93, .inl tou))]]) (gr := [[(a2, .inl (g.2.1 0, 534, .inl (m_save f k pa)))], [(a5, .inl (g.2.1 0, 60, .inl tx))]]) (zr_V (As := [.int (nI j)]) (rest := []) X (m_X9_does l g x a0 a1 a2 a3 a4 a5 a6 (m_sk k + 1) 0 (p_j tx ty (p_pos tx ty u)) tlu 0 valu (decide (p_j tx ty (p_pos tx ty u) < ty)) bc c tou j n r (p_sort tx ty (p_pos tx ty j)) (p_a tx ty (p_pos tx ty j)) (p_b tx ty (p_pos tx ty j)) (by omega) hso ha hbb hnum (by omega) h6c (by omega) h5c hl6 _) zL_RX9_191 (ci := 12) rfl (hW.H.at 0 0 rfl rfl) (zW.pre (gc := [[(x, .inr (12, [.ref a0, .ref a1, .ref a2, .int (nI (m_sk k + 1)), .ref a3, .ref a4, .ref a5, .int 0, .int 0, .int (nI (p_j tx ty (p_pos tx ty u))), .int (zb (decide (p_j tx ty (p_pos tx ty u) < ty))), .int valu, .ref a6, .int (nI tlu), .int (zb bc)]))], [(a0, .inl (g.2.1 0, 89, .inl c))], [(a6, .inl (g.2.1 0, 93, .inl tou))]]) (gr := [[(a2, .inl (g.2.1 0, 534, .inl (m_save f k pa)))], [(a5, .inl (g.2.1 0, 60, .inl tx))]]) hW hA0) hS hA0 hls rfl (Nat.le_of_ble_eq_true rfl) ⟨rfl, rfl, Nat.le_of_ble_eq_true rfl, Nat.le_of_ble_eq_true rfl, (Nat.le_of_ble_eq_true rfl), (Nat.le_of_ble_eq_true rfl)⟩ dX9_work_39) hW hS hA (fun v gc' H locs hpost hW hS => ?_)
          obtain ⟨bc2, rfl, rfl⟩ := hpost
          have hW : zW g A ([[(x, .inr (12, [.ref a0, .ref a1, .ref a2, .int (nI (m_sk k + 1)), .ref a3, .ref a4, .ref a5, .int (nI 0), .int 0, .int (nI (p_j tx ty (p_pos tx ty u))), .int (zb (decide (p_j tx ty (p_pos tx ty u) < ty))), .int valu, .ref a6, .int (nI tlu), .int (zb bc2)]))], [(a0, .inl (g.2.1 0, 89, .inl ((w_step c (p_sort tx ty (p_pos tx ty j)) (p_a tx ty (p_pos tx ty j)) (p_b tx ty (p_pos tx ty j))).2)))], [(a6, .inl (g.2.1 0, 93, .inl tou))], [(a2, .inl (g.2.1 0, 534, .inl (m_save f k pa)))], [(a5, .inl (g.2.1 0, 60, .inl tx))]] : List va_W) H := hW
          refine W.eq (g2 := F0 zm 42 ls [.int (zb ((w_step c (p_sort tx ty (p_pos tx ty j)) (p_a tx ty (p_pos tx ty j)) (p_b tx ty (p_pos tx ty j))).1))]) rfl ?_
          refine zb_ifeq (tgt := 51) hx hb dX9_work_42 (by decide) (fun c42_2 => ?_) (fun c42_2 => ?_)
          · skip
            refine lv_iload_n hx hb dX9_work_51 rfl (lv_at hl 1 rfl) ?_
            have hW := hW.perm (gs' := ([[(x, .inr (12, [.ref a0, .ref a1, .ref a2, .int (nI (m_sk k + 1)), .ref a3, .ref a4, .ref a5, .int (nI 0), .int 0, .int (nI (p_j tx ty (p_pos tx ty u))), .int (zb (decide (p_j tx ty (p_pos tx ty u) < ty))), .int valu, .ref a6, .int (nI tlu), .int (zb bc2)]))], [(a0, .inl (g.2.1 0, 89, .inl ((w_step c (p_sort tx ty (p_pos tx ty j)) (p_a tx ty (p_pos tx ty j)) (p_b tx ty (p_pos tx ty j))).2)))], [(a2, .inl (g.2.1 0, 534, .inl (m_save f k pa)))], [(a5, .inl (g.2.1 0, 60, .inl tx))], [(a6, .inl (g.2.1 0, 93, .inl tou))]] : List va_W)) [0, 1, 3, 4, 2] 5 rfl (by decide) rfl
            refine zWR.iret X hAe hW hS hr hlocks ?_ (Nat.le_of_ble_eq_true rfl) (Nat.le_of_ble_eq_true rfl) dX9_work_52
            have e := w_step_no c42_2
            rw [e, hc]
            refine ⟨j, _, _, _, _, _, _, ⟨by omega, hsuc, Or.inr (by unfold w_suc; rw [← hc]; exact c42_2)⟩, rfl, rfl⟩
          · skip
            refine lv_iinc (v := nI (j + 1)) (lv' := [(1, .int (nI (j + 1))), (0, .ref x)]) hx hb dX9_work_45 hl (k := 1) rfl (zx_add rfl rfl) (by decide) rfl (fun ls hl => ?_)
            have hls := hl.1
            refine lv_goto (tgt := 29) hx hb dX9_work_48 (by decide) ?_
            have hW := hW.perm (gs' := ([[(x, .inr (12, [.ref a0, .ref a1, .ref a2, .int (nI (m_sk k + 1)), .ref a3, .ref a4, .ref a5, .int (nI 0), .int 0, .int (nI (p_j tx ty (p_pos tx ty u))), .int (zb (decide (p_j tx ty (p_pos tx ty u) < ty))), .int valu, .ref a6, .int (nI tlu), .int (zb bc2)]))], [(a0, .inl (g.2.1 0, 89, .inl ((w_step c (p_sort tx ty (p_pos tx ty j)) (p_a tx ty (p_pos tx ty j)) (p_b tx ty (p_pos tx ty j))).2)))], [(a2, .inl (g.2.1 0, 534, .inl (m_save f k pa)))], [(a5, .inl (g.2.1 0, 60, .inl tx))], [(a6, .inl (g.2.1 0, 93, .inl tou))]] : List va_W)) [0, 1, 3, 4, 2] 5 rfl (by decide) rfl
            exact ih29 (j + 1) (by omega) (by omega) _ _ (by rw [hc]; rfl) (lt_s hsuc (by unfold w_suc; rw [← hc]; exact c42_2)) _ _ hW hS _ (lv_sub hl [1, 0] rfl)
    exact hj29 (tlu + 1) (0) (by omega) (by omega) bC _ rfl (fun _ h => absurd h (by omega)) _ _ hW hS _ (lv_sub hl [1, 0] rfl)
  · exact absurd c9_0 (by rw [p_end_uniq hend hend0, hgood]; decide)
