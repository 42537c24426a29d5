set_option maxRecDepth 100000
theorem zL_RX9_114 : zLV RX9 114 RX9 yX9_day cX9_day 6 (Option.none : Option Jvm.ClassFile.FieldType) 1 := ⟨.inl q1757, q1759, qs54, q103, rfl, q1760, ⟨by decide +kernel, by decide +kernel, by decide +kernel⟩⟩
abbrev rm_X9_days : Room := { frames := 6, cells := 0, slots := 0, locals := 137 }
set_option maxHeartbeats 4000000 in
set_option maxRecDepth 100000 in
theorem m_X9_days (l : Launch) (g : zG) (x a0 a1 a2 a3 a4 a5 a6 : Nat) (k ty at_ tl : Nat) (thr val : Int32) (bF bC : Bool) (a : Nat) (f : Nat → Int32) (d n r : Nat) (hd : d < 100000) (hn : n ≤ 4) (h6 : f 6 = nI n) (hr6 : r < 6) (h5 : f 5 = nI r) (hlay : ∀ j, j < d → m_layOk (m_days f n r j) n) (sz : Nat) : zWR l yX9_days cX9_days 4 (Option.none : Option Jvm.ClassFile.FieldType) rm_X9_days g [.ref x, .ref a, .int (nI d)] ([[(x, .inr (12, [.ref a0, .ref a1, .ref a2, .int (nI k), .ref a3, .ref a4, .ref a5, .int (nI ty), .int thr, .int (nI at_), .int (zb bF), .int val, .ref a6, .int (nI tl), .int (zb bC)]))], [(a, .inl (g.2.1 0, 89, .inl f))]] : List va_W) 0 0 sz (fun zv gs' => ∃ bc, zv = none ∧ gs' = [[(x, .inr (12, [.ref a0, .ref a1, .ref a2, .int (nI k), .ref a3, .ref a4, .ref a5, .int (nI ty), .int thr, .int (nI at_), .int (zb bF), .int val, .ref a6, .int (nI tl), .int (zb bc)]))], [(a, .inl (g.2.1 0, 89, .inl (m_days f n r d)))]]) := by
  refine zWR.start (by decide) (Nat.le_of_ble_eq_true rfl) ?_
  intro zp ze s zm zbl zmt zc ls A X hr hlocks hinn hl hAe hW hS hA hA0
  have hx := X.1
  have hb := X.2.1
  have hml := X.2.2.1
  have hown := X.2.2.2.1
  have hls := hl.1
  have hl : lv_has ls 4 [(0, .ref x), (1, .ref a), (2, .int (nI d))] := hl
  refine lv_iconst (v := 0) hx hb dX9_days_0 rfl ?_
  refine lv_istore_n (lv' := [(3, .int 0), (0, .ref x), (1, .ref a), (2, .int (nI d))]) hx hb dX9_days_1 rfl hl (by decide) rfl (fun ls hl => ?_)
  have hls := hl.1
  have hj2 : ∀ (zn j : Nat) (h_le : j ≤ d) (h_fu : d < j + zn) (bc : Bool) (c : Nat → Int32) (hc : c = m_days f n r j) (H : Heap) (locs : List Loc), zW g A ([[(x, .inr (12, [.ref a0, .ref a1, .ref a2, .int (nI k), .ref a3, .ref a4, .ref a5, .int (nI ty), .int thr, .int (nI at_), .int (zb bF), .int val, .ref a6, .int (nI tl), .int (zb bc)]))], [(a, .inl (g.2.1 0, 89, .inl c))]] : List va_W) H → va_S A s.heap H locs → ∀ (ls : Array Slot), lv_has ls 4 [(0, .ref x), (1, .ref a), (2, .int (nI d)), (3, .int (nI j))] → W zp l ze rm_X9_days s zm ([.ref x, .ref a, .int (nI d)] : List Value).toArray zbl zmt zc H locs 0 0 (MQ zbl (zQW g ([[(x, .inr (12, [.ref a0, .ref a1, .ref a2, .int (nI k), .ref a3, .ref a4, .ref a5, .int (nI ty), .int thr, .int (nI at_), .int (zb bF), .int val, .ref a6, .int (nI tl), .int (zb bC)]))], [(a, .inl (g.2.1 0, 89, .inl f))]] : List va_W) (fun zv gs' => ∃ bc, zv = none ∧ gs' = [[(x, .inr (12, [.ref a0, .ref a1, .ref a2, .int (nI k), .ref a3, .ref a4, .ref a5, .int (nI ty), .int thr, .int (nI at_), .int (zb bF), .int val, .ref a6, .int (nI tl), .int (zb bc)]))], [(a, .inl (g.2.1 0, 89, .inl (m_days f n r d)))]])) ([.ref x, .ref a, .int (nI d)] : List Value).toArray s 0 0 A) (F0 zm 2 ls []) := by
    intro zn
    induction zn with
    | zero => intro j h_le h_fu; exact absurd h_fu (by omega)
    | succ zn ih2 =>
      intro j h_le h_fu bc c hc H locs hW hS ls hl
      have hls := hl.1
      have h6c : c 6 = nI n := by rw [hc]; exact (m_days_lo (by omega) (by omega)).trans h6
      have h5c : c 5 = nI r := by rw [hc]; exact (m_days_lo (by omega) (by omega)).trans h5
      refine lv_iload_n hx hb dX9_days_2 rfl (lv_at hl 3 rfl) ?_
      refine lv_iload_n hx hb dX9_days_3 rfl (lv_at hl 2 rfl) ?_
      refine lv_icmp_ge (tgt := 18) hx hb dX9_days_4 (by decide) (fun c4_0 => ?_) (fun c4_0 => ?_)
      · skip
        have kc4_0 := (zn_le (a := d) (b := j) rfl rfl (by omega) (by omega)).mp c4_0
        refine zWR.vret X hAe hW hS hr hlocks ?_ (Nat.le_of_ble_eq_true rfl) (Nat.le_of_ble_eq_true rfl) dX9_days_18
        refine ⟨bc, rfl, ?_⟩
        rw [hc, show j = d by omega]
      · skip
        have kc4_0 := mt (zn_le (a := d) (b := j) rfl rfl (by omega) (by omega)).mpr c4_0
        have hlayc : m_layOk c n := by rw [hc]; exact hlay j (by omega)
        refine lv_aload_n hx hb dX9_days_7 rfl (lv_at hl 0 rfl) ?_
        refine lv_aload_n hx hb dX9_days_8 rfl (lv_at hl 1 rfl) ?_
        refine zc_wr (gc := [[(x, .inr (12, [.ref a0, .ref a1, .ref a2, .int (nI k), .ref a3, .ref a4, .ref a5, .int (nI ty), .int thr, .int (nI at_), .int (zb bF), .int val, .ref a6, .int (nI tl), .int (zb bc)]))], [(a, .inl (g.2.1 0, 89, .inl c))]]) (gr := []) (zr_V (As := [.ref a]) (rest := []) X (m_X9_day l g x a0 a1 a2 a3 a4 a5 a6 k ty at_ tl thr val bF bc a c n r (by omega) (by first | exact h6c | exact h6 | (simp (disch := omega) only [upd_n]; first | exact h6c | exact h6)) (by omega) (by first | exact h5c | exact h5 | (simp (disch := omega) only [upd_n]; first | exact h5c | exact h5)) (by first | exact hlay | exact hlayc) _) zL_RX9_114 (ci := 12) rfl (hW.H.at 0 0 rfl rfl) (zW.pre (gc := [[(x, .inr (12, [.ref a0, .ref a1, .ref a2, .int (nI k), .ref a3, .ref a4, .ref a5, .int (nI ty), .int thr, .int (nI at_), .int (zb bF), .int val, .ref a6, .int (nI tl), .int (zb bc)]))], [(a, .inl (g.2.1 0, 89, .inl c))]]) (gr := []) hW hA0) hS hA0 hls rfl (Nat.le_of_ble_eq_true rfl) ⟨rfl, rfl, Nat.le_of_ble_eq_true rfl, Nat.le_of_ble_eq_true rfl, (Nat.le_of_ble_eq_true rfl), (Nat.le_of_ble_eq_true rfl)⟩ dX9_days_9) hW hS hA (fun v gc' H locs hpost hW hS => ?_)
        obtain ⟨rfl, rfl⟩ := hpost
        have hW : zW g A ([[(x, .inr (12, [.ref a0, .ref a1, .ref a2, .int (nI k), .ref a3, .ref a4, .ref a5, .int (nI ty), .int thr, .int (nI at_), .int (zb bF), .int val, .ref a6, .int (nI tl), .int (zb (m_clear c n r))]))], [(a, .inl (g.2.1 0, 89, .inl (m_day c n r)))]] : List va_W) H := hW
        refine W.eq (g2 := F0 zm 12 ls []) rfl ?_
        refine lv_iinc (v := nI (j + 1)) (lv' := [(3, .int (nI (j + 1))), (0, .ref x), (1, .ref a), (2, .int (nI d))]) hx hb dX9_days_12 hl (k := 3) rfl (zx_add rfl rfl) (by decide) rfl (fun ls hl => ?_)
        have hls := hl.1
        refine lv_goto (tgt := 2) hx hb dX9_days_15 (by decide) ?_
        exact ih2 (j + 1) (by omega) (by omega) _ _ (by rw [hc]; rfl) _ _ hW hS _ (lv_sub hl [1, 2, 3, 0] rfl)
  exact hj2 (d + 1) (0) (by omega) (by omega) bC _ rfl _ _ hW hS _ (lv_sub hl [1, 2, 3, 0] rfl)

abbrev rm_X9_copies : Room := { frames := 0, cells := 0, slots := 0, locals := 0 }
set_option maxHeartbeats 4000000 in
set_option maxRecDepth 100000 in
theorem m_X9_copies (l : Launch) (g : zG) (a b fa ta na nb : Nat) (f t : Nat → Int32) (ha : fa + 89 ≤ na) (hb2 : ta + 89 ≤ nb) (hna : na < 100000) (hnb : nb < 100000) (sz : Nat) : zWR l yX9_copies cX9_copies 5 (Option.none : Option Jvm.ClassFile.FieldType) rm_X9_copies g [.ref a, .int (nI fa), .ref b, .int (nI ta)] ([[(a, .inl (g.2.1 0, na, .inl f))], [(b, .inl (g.2.1 0, nb, .inl t))]] : List va_W) 0 0 sz (fun zv gs' => zv = none ∧ gs' = [[(a, .inl (g.2.1 0, na, .inl f))], [(b, .inl (g.2.1 0, nb, .inl (va_cpy f t fa ta 89)))]]) := by
  refine zWR.start (by decide) (Nat.le_of_ble_eq_true rfl) ?_
  intro zp ze s zm zbl zmt zc ls A X hr hlocks hinn hl hAe hW hS hA hA0
  have hx := X.1
  have hb := X.2.1
  have hml := X.2.2.1
  have hown := X.2.2.2.1
  have hls := hl.1
  have hl : lv_has ls 5 [(0, .ref a), (1, .int (nI fa)), (2, .ref b), (3, .int (nI ta))] := hl
  have hna2 : na < 2 ^ 31 := by omega
  have hnb2 : nb < 2 ^ 31 := by omega
  refine lv_iconst (v := 0) hx hb dX9_copies_0 rfl ?_
  refine lv_istore (lv' := [(4, .int 0), (0, .ref a), (1, .int (nI fa)), (2, .ref b), (3, .int (nI ta))]) hx hb dX9_copies_1 hl (by decide) rfl (fun ls hl => ?_)
  have hls := hl.1
  have hj3 : ∀ (zn j : Nat) (h_le : j ≤ 89) (h_fu : 89 < j + zn) (c : Nat → Int32) (hc : c = va_cpy f t fa ta j) (H : Heap) (locs : List Loc), zW g A ([[(a, .inl (g.2.1 0, na, .inl f))], [(b, .inl (g.2.1 0, nb, .inl c))]] : List va_W) H → va_S A s.heap H locs → ∀ (ls : Array Slot), lv_has ls 5 [(0, .ref a), (1, .int (nI fa)), (2, .ref b), (3, .int (nI ta)), (4, .int (nI j))] → W zp l ze rm_X9_copies s zm ([.ref a, .int (nI fa), .ref b, .int (nI ta)] : List Value).toArray zbl zmt zc H locs 0 0 (MQ zbl (zQW g ([[(a, .inl (g.2.1 0, na, .inl f))], [(b, .inl (g.2.1 0, nb, .inl t))]] : List va_W) (fun zv gs' => zv = none ∧ gs' = [[(a, .inl (g.2.1 0, na, .inl f))], [(b, .inl (g.2.1 0, nb, .inl (va_cpy f t fa ta 89)))]])) ([.ref a, .int (nI fa), .ref b, .int (nI ta)] : List Value).toArray s 0 0 A) (F0 zm 3 ls []) := by
    intro zn
    induction zn with
    | zero => intro j h_le h_fu; exact absurd h_fu (by omega)
    | succ zn ih3 =>
      intro j h_le h_fu c hc H locs hW hS ls hl
      have hls := hl.1
      refine lv_iload hx hb dX9_copies_3 (lv_at hl 4 rfl) ?_
      refine lv_bipush (v := 89) hx hb dX9_copies_5 (by decide) ?_
      refine lv_icmp_ge (tgt := 28) hx hb dX9_copies_7 (by decide) (fun c7_0 => ?_) (fun c7_0 => ?_)
      · skip
        have kc7_0 := (zn_le (a := 89) (b := j) rfl rfl (by omega) (by omega)).mp c7_0
        refine zWR.vret X hAe hW hS hr hlocks ?_ (Nat.le_of_ble_eq_true rfl) (Nat.le_of_ble_eq_true rfl) dX9_copies_28
        refine ⟨rfl, ?_⟩
        rw [hc, show j = 89 by omega]
      · skip
        have kc7_0 := mt (zn_le (a := 89) (b := j) rfl rfl (by omega) (by omega)).mpr c7_0
        refine lv_aload_n hx hb dX9_copies_10 rfl (lv_at hl 2 rfl) ?_
        refine lv_iload_n hx hb dX9_copies_11 rfl (lv_at hl 3 rfl) ?_
        refine lv_iload hx hb dX9_copies_12 (lv_at hl 4 rfl) ?_
        refine lv_iadd hx hb dX9_copies_14 ?_
        refine lv_aload_n hx hb dX9_copies_15 rfl (lv_at hl 0 rfl) ?_
        refine lv_iload_n hx hb dX9_copies_16 rfl (lv_at hl 1 rfl) ?_
        refine lv_iload hx hb dX9_copies_17 (lv_at hl 4 rfl) ?_
        refine lv_iadd hx hb dX9_copies_19 ?_
        refine z_iald X (j := fa + j) (hW.H.at 0 0 rfl rfl) (zx_add rfl rfl) (by omega) (by omega) dX9_copies_20 ?_
        refine z_iast X (j := ta + j) hW hS 1 0 rfl rfl (zx_add rfl rfl) (by omega) (by omega) dX9_copies_21 (fun H locs hW hS => ?_)
        have hW : zW g A ([[(a, .inl (g.2.1 0, na, .inl f))], [(b, .inl (g.2.1 0, nb, .inl (upd c (ta + j) (f (fa + j)))))]] : List va_W) H := hW
        refine lv_iinc (v := nI (j + 1)) (lv' := [(4, .int (nI (j + 1))), (0, .ref a), (1, .int (nI fa)), (2, .ref b), (3, .int (nI ta))]) hx hb dX9_copies_22 hl (k := 4) rfl (zx_add rfl rfl) (by decide) rfl (fun ls hl => ?_)
        have hls := hl.1
        refine lv_goto (tgt := 3) hx hb dX9_copies_25 (by decide) ?_
        exact ih3 (j + 1) (by omega) (by omega) _ (by rw [hc]; exact m_cpy_s) _ _ hW hS _ (lv_sub hl [1, 2, 3, 4, 0] rfl)
  exact hj3 (89 + 1) (0) (by omega) (by omega) _ m_cpy_0.symm _ _ hW hS _ (lv_sub hl [1, 2, 3, 4, 0] rfl)
