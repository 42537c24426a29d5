set_option maxRecDepth 100000
theorem zP_RX9_104_12 : zP RX9 104 12 14 .boolean := ⟨RX9, TX9, 15, "SpoilMeadowsModel", tyX9, rfl, in_X9, by decide, .inl q1616, .inl rfl, tyX9_ok, nmX9, by decide +kernel, rfl⟩
theorem zL_RX9_108 : zLS RX9 108 yX9_wantsToGo cX9_wantsToGo 3 (Option.some Jvm.ClassFile.FieldType.boolean) 2 := ⟨.inl q1788, q1789, q103, q1790, ⟨by decide +kernel, by decide +kernel, by decide +kernel⟩⟩
theorem zL_RX9_111 : zLS RX9 111 yX9_goes cX9_goes 4 (Option.none : Option Jvm.ClassFile.FieldType) 2 := ⟨.inl q1791, q1792, q103, q1793, ⟨by decide +kernel, by decide +kernel, by decide +kernel⟩⟩
theorem zL_RX9_101 : zLS RX9 101 yX9_raises cX9_raises 5 (Option.some Jvm.ClassFile.FieldType.int) 3 := ⟨.inl q1782, q1783, q103, q1784, ⟨by decide +kernel, by decide +kernel, by decide +kernel⟩⟩
theorem zL_RX9_98 : zLS RX9 98 yX9_lays cX9_lays 8 (Option.some Jvm.ClassFile.FieldType.int) 3 := ⟨.inl q1770, q1771, q103, q1772, ⟨by decide +kernel, by decide +kernel, by decide +kernel⟩⟩
theorem zL_RX9_95 : zLS RX9 95 yX9_comesNearer cX9_comesNearer 4 (Option.none : Option Jvm.ClassFile.FieldType) 2 := ⟨.inl q1764, q1765, q103, q1766, ⟨by decide +kernel, by decide +kernel, by decide +kernel⟩⟩
theorem zL_RX9_91 : zLS RX9 91 yX9_dries cX9_dries 4 (Option.none : Option Jvm.ClassFile.FieldType) 2 := ⟨.inl q1761, q1762, q103, q1763, ⟨by decide +kernel, by decide +kernel, by decide +kernel⟩⟩
abbrev rm_X9_day : Room := { frames := 5, cells := 0, slots := 0, locals := 112 }
set_option maxHeartbeats 4000000 in
set_option maxRecDepth 100000 in
theorem m_X9_day (l : Launch) (g : zG) (x a0 a1 a2 a3 a4 a5 a6 : Nat) (k ty at_ tl : Nat) (thr val : Int32) (bF bC : Bool) (a : Nat) (f : Nat → Int32) (n r : Nat) (hn : n ≤ 4) (h6 : f 6 = nI n) (hr6 : r < 6) (h5 : f 5 = nI r) (hlay : m_layOk f n) (sz : Nat) : zWR l yX9_day cX9_day 6 (Option.none : Option Jvm.ClassFile.FieldType) rm_X9_day g [.ref x, .ref a] ([[(x, .inr (12, [.ref a0, .ref a1, .ref a2, .int (nI k), .ref a3, .ref a4, .ref a5, .int (nI ty), .int thr, .int (nI at_), .int (zb bF), .int val, .ref a6, .int (nI tl), .int (zb bC)]))], [(a, .inl (g.2.1 0, 89, .inl f))]] : List va_W) 0 0 sz (fun zv gs' => zv = none ∧ gs' = [[(x, .inr (12, [.ref a0, .ref a1, .ref a2, .int (nI k), .ref a3, .ref a4, .ref a5, .int (nI ty), .int thr, .int (nI at_), .int (zb bF), .int val, .ref a6, .int (nI tl), .int (zb (m_clear f n r))]))], [(a, .inl (g.2.1 0, 89, .inl (m_day f n r)))]]) := by
  refine zWR.start (by decide) (Nat.le_of_ble_eq_true rfl) ?_
  intro zp ze s zm zbl zmt zc ls A X hr hlocks hinn hl hAe hW hS hA hA0
  have hx := X.1
  have hb := X.2.1
  have hml := X.2.2.1
  have hown := X.2.2.2.1
  have hls := hl.1
  have hl : lv_has ls 6 [(0, .ref x), (1, .ref a)] := hl
  refine lv_iconst (v := 0) hx hb dX9_day_0 rfl ?_
  refine lv_istore_n (lv' := [(2, .int 0), (0, .ref x), (1, .ref a)]) hx hb dX9_day_1 rfl hl (by decide) rfl (fun ls hl => ?_)
  have hls := hl.1
  have hj2 : ∀ (zn m : Nat) (h_le : m ≤ 5) (h_fu : 5 < m + zn) (c : Nat → Int32) (hc : c = m_dryL f m) (H : Heap) (locs : List Loc), zW g A ([[(x, .inr (12, [.ref a0, .ref a1, .ref a2, .int (nI k), .ref a3, .ref a4, .ref a5, .int (nI ty), .int thr, .int (nI at_), .int (zb bF), .int val, .ref a6, .int (nI tl), .int (zb bC)]))], [(a, .inl (g.2.1 0, 89, .inl c))]] : List va_W) H → va_S A s.heap H locs → ∀ (ls : Array Slot), lv_has ls 6 [(0, .ref x), (1, .ref a), (2, .int (nI m))] → W zp l ze rm_X9_day s zm ([.ref x, .ref a] : List Value).toArray zbl zmt zc H locs 0 0 (MQ zbl (zQW g ([[(x, .inr (12, [.ref a0, .ref a1, .ref a2, .int (nI k), .ref a3, .ref a4, .ref a5, .int (nI ty), .int thr, .int (nI at_), .int (zb bF), .int val, .ref a6, .int (nI tl), .int (zb bC)]))], [(a, .inl (g.2.1 0, 89, .inl f))]] : List va_W) (fun zv gs' => zv = none ∧ gs' = [[(x, .inr (12, [.ref a0, .ref a1, .ref a2, .int (nI k), .ref a3, .ref a4, .ref a5, .int (nI ty), .int thr, .int (nI at_), .int (zb bF), .int val, .ref a6, .int (nI tl), .int (zb (m_clear f n r))]))], [(a, .inl (g.2.1 0, 89, .inl (m_day f n r)))]])) ([.ref x, .ref a] : List Value).toArray s 0 0 A) (F0 zm 2 ls []) := by
    intro zn
    induction zn with
    | zero => intro m h_le h_fu; exact absurd h_fu (by omega)
    | succ zn ih2 =>
      intro m h_le h_fu c hc H locs hW hS ls hl
      have hls := hl.1
      have h6c : c 6 = nI n := by rw [hc]; exact (m_dryL_lo (by omega)).trans h6
      have h5c : c 5 = nI r := by rw [hc]; exact (m_dryL_lo (by omega)).trans h5
      refine lv_iload_n hx hb dX9_day_2 rfl (lv_at hl 2 rfl) ?_
      refine lv_iconst (v := 5) hx hb dX9_day_3 rfl ?_
      refine lv_icmp_ge (tgt := 18) hx hb dX9_day_4 (by decide) (fun c4_0 => ?_) (fun c4_0 => ?_)
      · skip
        have kc4_0 := (zn_le (a := 5) (b := m) rfl rfl (by omega) (by omega)).mp c4_0
        have hm5 : m = 5 := by omega
        rw [hm5] at hc
        refine lv_iconst (v := 0) hx hb dX9_day_18 rfl ?_
        refine lv_istore_n (lv' := [(2, .int 0), (0, .ref x), (1, .ref a)]) hx hb dX9_day_19 rfl hl (by decide) rfl (fun ls hl => ?_)
        have hls := hl.1
        have hj20 : ∀ (zn b : Nat) (h_le : b ≤ n) (h_fu : n < b + zn) (c : Nat → Int32) (hc : c = m_comeL (m_dryL f 5) b) (H : Heap) (locs : List Loc), zW g A ([[(x, .inr (12, [.ref a0, .ref a1, .ref a2, .int (nI k), .ref a3, .ref a4, .ref a5, .int (nI ty), .int thr, .int (nI at_), .int (zb bF), .int val, .ref a6, .int (nI tl), .int (zb bC)]))], [(a, .inl (g.2.1 0, 89, .inl c))]] : List va_W) H → va_S A s.heap H locs → ∀ (ls : Array Slot), lv_has ls 6 [(0, .ref x), (1, .ref a), (2, .int (nI b))] → W zp l ze rm_X9_day s zm ([.ref x, .ref a] : List Value).toArray zbl zmt zc H locs 0 0 (MQ zbl (zQW g ([[(x, .inr (12, [.ref a0, .ref a1, .ref a2, .int (nI k), .ref a3, .ref a4, .ref a5, .int (nI ty), .int thr, .int (nI at_), .int (zb bF), .int val, .ref a6, .int (nI tl), .int (zb bC)]))], [(a, .inl (g.2.1 0, 89, .inl f))]] : List va_W) (fun zv gs' => zv = none ∧ gs' = [[(x, .inr (12, [.ref a0, .ref a1, .ref a2, .int (nI k), .ref a3, .ref a4, .ref a5, .int (nI ty), .int thr, .int (nI at_), .int (zb bF), .int val, .ref a6, .int (nI tl), .int (zb (m_clear f n r))]))], [(a, .inl (g.2.1 0, 89, .inl (m_day f n r)))]])) ([.ref x, .ref a] : List Value).toArray s 0 0 A) (F0 zm 20 ls []) := by
          intro zn
          induction zn with
          | zero => intro b h_le h_fu; exact absurd h_fu (by omega)
          | succ zn ih20 =>
            intro b h_le h_fu c hc H locs hW hS ls hl
            have hls := hl.1
            have h6c : c 6 = nI n := by rw [hc]; exact ((m_comeL_lo (by omega)).trans (m_dryL_lo (by omega))).trans h6
            have h5c : c 5 = nI r := by rw [hc]; exact ((m_comeL_lo (by omega)).trans (m_dryL_lo (by omega))).trans h5
            refine lv_iload_n hx hb dX9_day_20 rfl (lv_at hl 2 rfl) ?_
            refine lv_aload_n hx hb dX9_day_21 rfl (lv_at hl 1 rfl) ?_
            refine lv_bipush (v := 6) hx hb dX9_day_22 (by decide) ?_
            refine z_iald X (j := 6) (hW.H.at 1 0 rfl rfl) rfl (by omega) (by decide) dX9_day_24 ?_
            refine z_stk (b := [.int (nI n), .int (nI b)]) (by rw [show (c 6) = nI n from h6c]) ?_
            refine lv_icmp_ge (tgt := 39) hx hb dX9_day_25 (by decide) (fun c25_1 => ?_) (fun c25_1 => ?_)
            · skip
              have kc25_1 := (zn_le (a := n) (b := b) rfl rfl (by omega) (by omega)).mp c25_1
              have hbn : b = n := by omega
              rw [hbn] at hc
              refine lv_iconst (v := 0) hx hb dX9_day_39 rfl ?_
              refine lv_istore_n (lv' := [(2, .int 0), (0, .ref x), (1, .ref a)]) hx hb dX9_day_40 rfl hl (by decide) rfl (fun ls hl => ?_)
              have hls := hl.1
              refine lv_iconst (v := 0) hx hb dX9_day_41 rfl ?_
              refine lv_istore_n (lv' := [(3, .int 0), (2, .int 0), (0, .ref x), (1, .ref a)]) hx hb dX9_day_42 rfl hl (by decide) rfl (fun ls hl => ?_)
              have hls := hl.1
              have hj43 : ∀ (zn b : Nat) (h_le : b ≤ n) (h_fu : n < b + zn) (c : Nat → Int32) (dn : Int32) (hc : (c, dn) = m_layL (m_d2 f n) b) (H : Heap) (locs : List Loc), zW g A ([[(x, .inr (12, [.ref a0, .ref a1, .ref a2, .int (nI k), .ref a3, .ref a4, .ref a5, .int (nI ty), .int thr, .int (nI at_), .int (zb bF), .int val, .ref a6, .int (nI tl), .int (zb bC)]))], [(a, .inl (g.2.1 0, 89, .inl c))]] : List va_W) H → va_S A s.heap H locs → ∀ (ls : Array Slot), lv_has ls 6 [(0, .ref x), (1, .ref a), (2, .int dn), (3, .int (nI b))] → W zp l ze rm_X9_day s zm ([.ref x, .ref a] : List Value).toArray zbl zmt zc H locs 0 0 (MQ zbl (zQW g ([[(x, .inr (12, [.ref a0, .ref a1, .ref a2, .int (nI k), .ref a3, .ref a4, .ref a5, .int (nI ty), .int thr, .int (nI at_), .int (zb bF), .int val, .ref a6, .int (nI tl), .int (zb bC)]))], [(a, .inl (g.2.1 0, 89, .inl f))]] : List va_W) (fun zv gs' => zv = none ∧ gs' = [[(x, .inr (12, [.ref a0, .ref a1, .ref a2, .int (nI k), .ref a3, .ref a4, .ref a5, .int (nI ty), .int thr, .int (nI at_), .int (zb bF), .int val, .ref a6, .int (nI tl), .int (zb (m_clear f n r))]))], [(a, .inl (g.2.1 0, 89, .inl (m_day f n r)))]])) ([.ref x, .ref a] : List Value).toArray s 0 0 A) (F0 zm 43 ls []) := by
                intro zn
                induction zn with
                | zero => intro b h_le h_fu; exact absurd h_fu (by omega)
                | succ zn ih43 =>
                  intro b h_le h_fu c dn hc H locs hW hS ls hl
                  have hls := hl.1
                  have hc1 := congrArg Prod.fst hc
                  dsimp only at hc1
                  have h6c : c 6 = nI n := by rw [hc1]; exact ((m_layL_lo (by omega)).trans (m_d2_lo (by omega))).trans h6
                  have h5c : c 5 = nI r := by rw [hc1]; exact ((m_layL_lo (by omega)).trans (m_d2_lo (by omega))).trans h5
                  refine lv_iload_n hx hb dX9_day_43 rfl (lv_at hl 3 rfl) ?_
                  refine lv_aload_n hx hb dX9_day_44 rfl (lv_at hl 1 rfl) ?_
                  refine lv_bipush (v := 6) hx hb dX9_day_45 (by decide) ?_
                  refine z_iald X (j := 6) (hW.H.at 1 0 rfl rfl) rfl (by omega) (by decide) dX9_day_47 ?_
                  refine z_stk (b := [.int (nI n), .int (nI b)]) (by rw [show (c 6) = nI n from h6c]) ?_
                  refine lv_icmp_ge (tgt := 78) hx hb dX9_day_48 (by decide) (fun c48_2 => ?_) (fun c48_2 => ?_)
                  · skip
                    have kc48_2 := (zn_le (a := n) (b := b) rfl rfl (by omega) (by omega)).mp c48_2
                    have hbn : b = n := by omega
                    rw [hbn] at hc1
                    refine lv_aload_n hx hb dX9_day_78 rfl (lv_at hl 1 rfl) ?_
                    refine lv_iconst (v := 0) hx hb dX9_day_79 rfl ?_
                    refine z_iald X (j := 0) (hW.H.at 1 0 rfl rfl) rfl (by omega) (by decide) dX9_day_80 ?_
                    refine lv_istore_n (lv' := [(3, .int (c 0)), (0, .ref x), (1, .ref a), (2, .int dn)]) hx hb dX9_day_81 rfl hl (by decide) rfl (fun ls hl => ?_)
                    have hls := hl.1
                    refine lv_iconst (v := 0) hx hb dX9_day_82 rfl ?_
                    refine lv_istore (lv' := [(4, .int 0), (3, .int (c 0)), (0, .ref x), (1, .ref a), (2, .int dn)]) hx hb dX9_day_83 hl (by decide) rfl (fun ls hl => ?_)
                    have hls := hl.1
                    have hj85 : ∀ (zn b : Nat) (h_le : b ≤ n) (h_fu : n < b + zn) (c : Nat → Int32) (lf : Int32) (hc : (c, lf) = m_raiL (m_d3 f n) r (m_d3 f n 0) b) (H : Heap) (locs : List Loc), zW g A ([[(x, .inr (12, [.ref a0, .ref a1, .ref a2, .int (nI k), .ref a3, .ref a4, .ref a5, .int (nI ty), .int thr, .int (nI at_), .int (zb bF), .int val, .ref a6, .int (nI tl), .int (zb bC)]))], [(a, .inl (g.2.1 0, 89, .inl c))]] : List va_W) H → va_S A s.heap H locs → ∀ (ls : Array Slot), lv_has ls 6 [(0, .ref x), (1, .ref a), (3, .int lf), (4, .int (nI b))] → W zp l ze rm_X9_day s zm ([.ref x, .ref a] : List Value).toArray zbl zmt zc H locs 0 0 (MQ zbl (zQW g ([[(x, .inr (12, [.ref a0, .ref a1, .ref a2, .int (nI k), .ref a3, .ref a4, .ref a5, .int (nI ty), .int thr, .int (nI at_), .int (zb bF), .int val, .ref a6, .int (nI tl), .int (zb bC)]))], [(a, .inl (g.2.1 0, 89, .inl f))]] : List va_W) (fun zv gs' => zv = none ∧ gs' = [[(x, .inr (12, [.ref a0, .ref a1, .ref a2, .int (nI k), .ref a3, .ref a4, .ref a5, .int (nI ty), .int thr, .int (nI at_), .int (zb bF), .int val, .ref a6, .int (nI tl), .int (zb (m_clear f n r))]))], [(a, .inl (g.2.1 0, 89, .inl (m_day f n r)))]])) ([.ref x, .ref a] : List Value).toArray s 0 0 A) (F0 zm 85 ls []) := by
                      intro zn
                      induction zn with
                      | zero => intro b h_le h_fu; exact absurd h_fu (by omega)
                      | succ zn ih85 =>
                        intro b h_le h_fu c lf hc H locs hW hS ls hl
                        have hls := hl.1
                        have hc1 := congrArg Prod.fst hc
                        dsimp only at hc1
                        have h6c : c 6 = nI n := by rw [hc1]; exact ((m_raiL_lo (by omega)).trans (m_d3_lo (by omega))).trans h6
                        have h5c : c 5 = nI r := by rw [hc1]; exact ((m_raiL_lo (by omega)).trans (m_d3_lo (by omega))).trans h5
                        refine lv_iload hx hb dX9_day_85 (lv_at hl 3 rfl) ?_
                        refine lv_aload_n hx hb dX9_day_87 rfl (lv_at hl 1 rfl) ?_
                        refine lv_bipush (v := 6) hx hb dX9_day_88 (by decide) ?_
                        refine z_iald X (j := 6) (hW.H.at 1 0 rfl rfl) rfl (by omega) (by decide) dX9_day_90 ?_
                        refine z_stk (b := [.int (nI n), .int (nI b)]) (by rw [show (c 6) = nI n from h6c]) ?_
                        refine lv_icmp_ge (tgt := 124) hx hb dX9_day_91 (by decide) (fun c91_3 => ?_) (fun c91_3 => ?_)
                        · skip
                          have kc91_3 := (zn_le (a := n) (b := b) rfl rfl (by omega) (by omega)).mp c91_3
                          have hbn : b = n := by omega
                          rw [hbn] at hc1
                          have hj137 : ∀  (bc : Bool) (hbc : bc = m_clear f n r) (H : Heap) (locs : List Loc), zW g A ([[(x, .inr (12, [.ref a0, .ref a1, .ref a2, .int (nI k), .ref a3, .ref a4, .ref a5, .int (nI ty), .int thr, .int (nI at_), .int (zb bF), .int val, .ref a6, .int (nI tl), .int (zb bC)]))], [(a, .inl (g.2.1 0, 89, .inl c))]] : List va_W) H → va_S A s.heap H locs → ∀ (ls : Array Slot), lv_has ls 6 [(0, .ref x), (1, .ref a)] → W zp l ze rm_X9_day s zm ([.ref x, .ref a] : List Value).toArray zbl zmt zc H locs 0 0 (MQ zbl (zQW g ([[(x, .inr (12, [.ref a0, .ref a1, .ref a2, .int (nI k), .ref a3, .ref a4, .ref a5, .int (nI ty), .int thr, .int (nI at_), .int (zb bF), .int val, .ref a6, .int (nI tl), .int (zb bC)]))], [(a, .inl (g.2.1 0, 89, .inl f))]] : List va_W) (fun zv gs' => zv = none ∧ gs' = [[(x, .inr (12, [.ref a0, .ref a1, .ref a2, .int (nI k), .ref a3, .ref a4, .ref a5, .int (nI ty), .int thr, .int (nI at_), .int (zb bF), .int val, .ref a6, .int (nI tl), .int (zb (m_clear f n r))]))], [(a, .inl (g.2.1 0, 89, .inl (m_day f n r)))]])) ([.ref x, .ref a] : List Value).toArray s 0 0 A) (F0 zm 137 ls [.int (zb bc), .ref x]) := by
                            intro bc hbc H locs hW hS ls hl
                            have hls := hl.1
                            refine z_put X hW hS 0 0 rfl rfl zP_RX9_104_12 (zb_nar _) (zb_fit _) (Nat.le_of_ble_eq_true rfl) dX9_day_137 (fun H locs hW hS => ?_)
                            have hW : zW g A ([[(x, .inr (12, [.ref a0, .ref a1, .ref a2, .int (nI k), .ref a3, .ref a4, .ref a5, .int (nI ty), .int thr, .int (nI at_), .int (zb bF), .int val, .ref a6, .int (nI tl), .int (zb bc)]))], [(a, .inl (g.2.1 0, 89, .inl c))]] : List va_W) H := hW
                            refine lv_iconst (v := 0) hx hb dX9_day_140 rfl ?_
                            refine lv_istore (lv' := [(4, .int 0), (0, .ref x), (1, .ref a)]) hx hb dX9_day_141 hl (by decide) rfl (fun ls hl => ?_)
                            have hls := hl.1
                            have hj143 : ∀ (zn b : Nat) (h_le : b ≤ n) (h_fu : n < b + zn) (c : Nat → Int32) (hc : c = m_sendL (m_d4 f n r) n r b) (H : Heap) (locs : List Loc), zW g A ([[(x, .inr (12, [.ref a0, .ref a1, .ref a2, .int (nI k), .ref a3, .ref a4, .ref a5, .int (nI ty), .int thr, .int (nI at_), .int (zb bF), .int val, .ref a6, .int (nI tl), .int (zb bc)]))], [(a, .inl (g.2.1 0, 89, .inl c))]] : List va_W) H → va_S A s.heap H locs → ∀ (ls : Array Slot), lv_has ls 6 [(0, .ref x), (1, .ref a), (4, .int (nI b))] → W zp l ze rm_X9_day s zm ([.ref x, .ref a] : List Value).toArray zbl zmt zc H locs 0 0 (MQ zbl (zQW g ([[(x, .inr (12, [.ref a0, .ref a1, .ref a2, .int (nI k), .ref a3, .ref a4, .ref a5, .int (nI ty), .int thr, .int (nI at_), .int (zb bF), .int val, .ref a6, .int (nI tl), .int (zb bC)]))], [(a, .inl (g.2.1 0, 89, .inl f))]] : List va_W) (fun zv gs' => zv = none ∧ gs' = [[(x, .inr (12, [.ref a0, .ref a1, .ref a2, .int (nI k), .ref a3, .ref a4, .ref a5, .int (nI ty), .int thr, .int (nI at_), .int (zb bF), .int val, .ref a6, .int (nI tl), .int (zb (m_clear f n r))]))], [(a, .inl (g.2.1 0, 89, .inl (m_day f n r)))]])) ([.ref x, .ref a] : List Value).toArray s 0 0 A) (F0 zm 143 ls []) := by
                              intro zn
                              induction zn with
                              | zero => intro b h_le h_fu; exact absurd h_fu (by omega)
                              | succ zn ih143 =>
                                intro b h_le h_fu c hc H locs hW hS ls hl
                                have hls := hl.1
                                have h6c : c 6 = nI n := by rw [hc]; exact ((m_sendL_lo (by omega)).trans (m_d4_lo (by omega))).trans h6
                                have h5c : c 5 = nI r := by rw [hc]; exact ((m_sendL_lo (by omega)).trans (m_d4_lo (by omega))).trans h5
                                refine lv_iload hx hb dX9_day_143 (lv_at hl 2 rfl) ?_
                                refine lv_aload_n hx hb dX9_day_145 rfl (lv_at hl 1 rfl) ?_
                                refine lv_bipush (v := 6) hx hb dX9_day_146 (by decide) ?_
                                refine z_iald X (j := 6) (hW.H.at 1 0 rfl rfl) rfl (by omega) (by decide) dX9_day_148 ?_
                                refine z_stk (b := [.int (nI n), .int (nI b)]) (by rw [show (c 6) = nI n from h6c]) ?_
                                refine lv_icmp_ge (tgt := 183) hx hb dX9_day_149 (by decide) (fun c149_4 => ?_) (fun c149_4 => ?_)
                                · skip
                                  have kc149_4 := (zn_le (a := n) (b := b) rfl rfl (by omega) (by omega)).mp c149_4
                                  have hbn : b = n := by omega
                                  rw [hbn] at hc
                                  refine lv_iconst (v := 0) hx hb dX9_day_183 rfl ?_
                                  refine lv_istore (lv' := [(4, .int 0), (0, .ref x), (1, .ref a)]) hx hb dX9_day_184 hl (by decide) rfl (fun ls hl => ?_)
                                  have hls := hl.1
                                  have hj186 : ∀ (zn q : Nat) (h_le : q ≤ 6) (h_fu : 6 < q + zn) (c : Nat → Int32) (hc : c = m_sltL (m_d5 f n r) q) (H : Heap) (locs : List Loc), zW g A ([[(x, .inr (12, [.ref a0, .ref a1, .ref a2, .int (nI k), .ref a3, .ref a4, .ref a5, .int (nI ty), .int thr, .int (nI at_), .int (zb bF), .int val, .ref a6, .int (nI tl), .int (zb bc)]))], [(a, .inl (g.2.1 0, 89, .inl c))]] : List va_W) H → va_S A s.heap H locs → ∀ (ls : Array Slot), lv_has ls 6 [(0, .ref x), (1, .ref a), (4, .int (nI q))] → W zp l ze rm_X9_day s zm ([.ref x, .ref a] : List Value).toArray zbl zmt zc H locs 0 0 (MQ zbl (zQW g ([[(x, .inr (12, [.ref a0, .ref a1, .ref a2, .int (nI k), .ref a3, .ref a4, .ref a5, .int (nI ty), .int thr, .int (nI at_), .int (zb bF), .int val, .ref a6, .int (nI tl), .int (zb bC)]))], [(a, .inl (g.2.1 0, 89, .inl f))]] : List va_W) (fun zv gs' => zv = none ∧ gs' = [[(x, .inr (12, [.ref a0, .ref a1, .ref a2, .int (nI k), .ref a3, .ref a4, .ref a5, .int (nI ty), .int thr, .int (nI at_), .int (zb bF), .int val, .ref a6, .int (nI tl), .int (zb (m_clear f n r))]))], [(a, .inl (g.2.1 0, 89, .inl (m_day f n r)))]])) ([.ref x, .ref a] : List Value).toArray s 0 0 A) (F0 zm 186 ls []) := by
                                    intro zn
                                    induction zn with
                                    | zero => intro q h_le h_fu; exact absurd h_fu (by omega)
                                    | succ zn ih186 =>
                                      intro q h_le h_fu c hc H locs hW hS ls hl
                                      have hls := hl.1
                                      refine lv_iload hx hb dX9_day_186 (lv_at hl 2 rfl) ?_
                                      refine lv_bipush (v := 6) hx hb dX9_day_188 (by decide) ?_
                                      refine lv_icmp_ge (tgt := 271) hx hb dX9_day_190 (by decide) (fun c190_5 => ?_) (fun c190_5 => ?_)
                                      · skip
                                        have kc190_5 := (zn_le (a := 6) (b := q) rfl rfl (by omega) (by omega)).mp c190_5
                                        have hbn : q = 6 := by omega
                                        rw [hbn] at hc
                                        refine lv_aload_n hx hb dX9_day_271 rfl (lv_at hl 1 rfl) ?_
                                        refine lv_iconst (v := 4) hx hb dX9_day_272 rfl ?_
                                        refine lv_dup2_11 hx hb dX9_day_273 rfl rfl ?_
                                        refine z_iald X (j := 4) (hW.H.at 1 0 rfl rfl) rfl (by omega) (by decide) dX9_day_274 ?_
                                        refine lv_iconst (v := 1) hx hb dX9_day_275 rfl ?_
                                        refine lv_iadd hx hb dX9_day_276 ?_
                                        refine z_iast X (j := 4) hW hS 1 0 rfl rfl rfl (by omega) (by decide) dX9_day_277 (fun H locs hW hS => ?_)
                                        have hW : zW g A ([[(x, .inr (12, [.ref a0, .ref a1, .ref a2, .int (nI k), .ref a3, .ref a4, .ref a5, .int (nI ty), .int thr, .int (nI at_), .int (zb bF), .int val, .ref a6, .int (nI tl), .int (zb bc)]))], [(a, .inl (g.2.1 0, 89, .inl (upd c 4 ((c 4) + 1))))]] : List va_W) H := hW
                                        refine zWR.vret X hAe hW hS hr hlocks ?_ (Nat.le_of_ble_eq_true rfl) (Nat.le_of_ble_eq_true rfl) dX9_day_278
                                        refine ⟨rfl, ?_⟩
                                        rw [hbc, m_day, m_d6, ← hc]
                                      · skip
                                        have kc190_5 := mt (zn_le (a := 6) (b := q) rfl rfl (by omega) (by omega)).mpr c190_5
                                        refine lv_aload_n hx hb dX9_day_193 rfl (lv_at hl 1 rfl) ?_
                                        refine lv_bipush (v := 8) hx hb dX9_day_194 (by decide) ?_
                                        refine lv_iconst (v := 3) hx hb dX9_day_196 rfl ?_
                                        refine lv_iload hx hb dX9_day_197 (lv_at hl 2 rfl) ?_
                                        refine lv_imul hx hb dX9_day_199 ?_
                                        refine lv_iadd hx hb dX9_day_200 ?_
                                        refine z_iald X (j := 8 + (3 * q)) (hW.H.at 1 0 rfl rfl) (zx_add rfl (zx_mul rfl rfl)) (by omega) (by decide) dX9_day_201 ?_
                                        refine lv_aload_n hx hb dX9_day_202 rfl (lv_at hl 1 rfl) ?_
                                        refine lv_iconst (v := 1) hx hb dX9_day_203 rfl ?_
                                        refine z_iald X (j := 1) (hW.H.at 1 0 rfl rfl) rfl (by omega) (by decide) dX9_day_204 ?_
                                        refine lv_iadd hx hb dX9_day_205 ?_
                                        refine lv_istore (lv' := [(5, .int ((c (8 + (3 * q))) + (c 1))), (0, .ref x), (1, .ref a), (4, .int (nI q))]) hx hb dX9_day_206 hl (by decide) rfl (fun ls hl => ?_)
                                        have hls := hl.1
                                        refine lv_aload_n hx hb dX9_day_208 rfl (lv_at hl 2 rfl) ?_
                                        refine lv_bipush (v := 8) hx hb dX9_day_209 (by decide) ?_
                                        refine lv_iconst (v := 3) hx hb dX9_day_211 rfl ?_
                                        refine lv_iload hx hb dX9_day_212 (lv_at hl 3 rfl) ?_
                                        refine lv_imul hx hb dX9_day_214 ?_
                                        refine lv_iadd hx hb dX9_day_215 ?_
                                        refine lv_iconst (v := 2) hx hb dX9_day_216 rfl ?_
                                        refine lv_iadd hx hb dX9_day_217 ?_
                                        refine lv_dup2_11 hx hb dX9_day_218 rfl rfl ?_
                                        refine z_iald X (j := (8 + (3 * q)) + 2) (hW.H.at 1 0 rfl rfl) (zx_add (zx_add rfl (zx_mul rfl rfl)) rfl) (by omega) (by decide) dX9_day_219 ?_
                                        refine lv_iload hx hb dX9_day_220 (lv_at hl 0 rfl) ?_
                                        refine lv_sipush (v := 999) hx hb dX9_day_222 (by decide) ?_
                                        refine lv_icmp_le (tgt := 237) hx hb dX9_day_225 (by decide) (fun c225_6 => ?_) (fun c225_6 => ?_)
                                        · skip
                                          refine lv_iconst (v := 0) hx hb dX9_day_237 rfl ?_
                                          refine lv_iadd hx hb dX9_day_238 ?_
                                          refine z_iast X (j := (8 + (3 * q)) + 2) hW hS 1 0 rfl rfl (zx_add (zx_add rfl (zx_mul rfl rfl)) rfl) (by omega) (by decide) dX9_day_239 (fun H locs hW hS => ?_)
                                          have hW : zW g A ([[(x, .inr (12, [.ref a0, .ref a1, .ref a2, .int (nI k), .ref a3, .ref a4, .ref a5, .int (nI ty), .int thr, .int (nI at_), .int (zb bF), .int val, .ref a6, .int (nI tl), .int (zb bc)]))], [(a, .inl (g.2.1 0, 89, .inl (upd c ((8 + (3 * q)) + 2) ((c ((8 + (3 * q)) + 2)) + 0))))]] : List va_W) H := hW
                                          refine lv_aload_n hx hb dX9_day_240 rfl (lv_at hl 2 rfl) ?_
                                          refine lv_bipush (v := 8) hx hb dX9_day_241 (by decide) ?_
                                          refine lv_iconst (v := 3) hx hb dX9_day_243 rfl ?_
                                          refine lv_iload hx hb dX9_day_244 (lv_at hl 3 rfl) ?_
                                          refine lv_imul hx hb dX9_day_246 ?_
                                          refine lv_iadd hx hb dX9_day_247 ?_
                                          refine lv_iload hx hb dX9_day_248 (lv_at hl 0 rfl) ?_
                                          refine lv_sipush (v := 999) hx hb dX9_day_250 (by decide) ?_
                                          refine lv_icmp_le (tgt := 262) hx hb dX9_day_253 (by decide) (fun c253_7 => ?_) (fun c253_7 => ?_)
                                          · skip
                                            refine lv_iload hx hb dX9_day_262 (lv_at hl 0 rfl) ?_
                                            refine z_iast X (j := 8 + (3 * q)) hW hS 1 0 rfl rfl (zx_add rfl (zx_mul rfl rfl)) (by omega) (by decide) dX9_day_264 (fun H locs hW hS => ?_)
                                            have hW : zW g A ([[(x, .inr (12, [.ref a0, .ref a1, .ref a2, .int (nI k), .ref a3, .ref a4, .ref a5, .int (nI ty), .int thr, .int (nI at_), .int (zb bF), .int val, .ref a6, .int (nI tl), .int (zb bc)]))], [(a, .inl (g.2.1 0, 89, .inl (upd (upd c ((8 + (3 * q)) + 2) ((c ((8 + (3 * q)) + 2)) + 0)) (8 + (3 * q)) ((c (8 + (3 * q))) + (c 1)))))]] : List va_W) H := hW
                                            refine lv_iinc (v := nI (q + 1)) (lv' := [(4, .int (nI (q + 1))), (5, .int ((c (8 + (3 * q))) + (c 1))), (0, .ref x), (1, .ref a)]) hx hb dX9_day_265 hl (k := 3) rfl (zx_add rfl rfl) (by decide) rfl (fun ls hl => ?_)
                                            have hls := hl.1
                                            refine lv_goto (tgt := 186) hx hb dX9_day_268 (by decide) ?_
                                            exact ih186 (q + 1) (by omega) (by omega) _ (by simp only [m_sltL, ← hc, m_slt, if_neg c190_5, if_pos c225_6, if_pos c253_7]) _ _ hW hS _ (lv_sub hl [2, 3, 0] rfl)
                                          · exact absurd c225_6 c253_7
                                        · skip
                                          refine lv_iload hx hb dX9_day_228 (lv_at hl 0 rfl) ?_
                                          refine lv_sipush (v := 999) hx hb dX9_day_230 (by decide) ?_
                                          refine lv_isub hx hb dX9_day_233 ?_
                                          refine lv_goto (tgt := 238) hx hb dX9_day_234 (by decide) ?_
                                          refine lv_iadd hx hb dX9_day_238 ?_
                                          refine z_iast X (j := (8 + (3 * q)) + 2) hW hS 1 0 rfl rfl (zx_add (zx_add rfl (zx_mul rfl rfl)) rfl) (by omega) (by decide) dX9_day_239 (fun H locs hW hS => ?_)
                                          have hW : zW g A ([[(x, .inr (12, [.ref a0, .ref a1, .ref a2, .int (nI k), .ref a3, .ref a4, .ref a5, .int (nI ty), .int thr, .int (nI at_), .int (zb bF), .int val, .ref a6, .int (nI tl), .int (zb bc)]))], [(a, .inl (g.2.1 0, 89, .inl (upd c ((8 + (3 * q)) + 2) ((c ((8 + (3 * q)) + 2)) + (((c (8 + (3 * q))) + (c 1)) - 999)))))]] : List va_W) H := hW
                                          refine lv_aload_n hx hb dX9_day_240 rfl (lv_at hl 2 rfl) ?_
                                          refine lv_bipush (v := 8) hx hb dX9_day_241 (by decide) ?_
                                          refine lv_iconst (v := 3) hx hb dX9_day_243 rfl ?_
                                          refine lv_iload hx hb dX9_day_244 (lv_at hl 3 rfl) ?_
                                          refine lv_imul hx hb dX9_day_246 ?_
                                          refine lv_iadd hx hb dX9_day_247 ?_
                                          refine lv_iload hx hb dX9_day_248 (lv_at hl 0 rfl) ?_
                                          refine lv_sipush (v := 999) hx hb dX9_day_250 (by decide) ?_
                                          refine lv_icmp_le (tgt := 262) hx hb dX9_day_253 (by decide) (fun c253_8 => ?_) (fun c253_8 => ?_)
                                          · exact absurd c253_8 c225_6
                                          · skip
                                            refine lv_sipush (v := 999) hx hb dX9_day_256 (by decide) ?_
                                            refine lv_goto (tgt := 264) hx hb dX9_day_259 (by decide) ?_
                                            refine z_iast X (j := 8 + (3 * q)) hW hS 1 0 rfl rfl (zx_add rfl (zx_mul rfl rfl)) (by omega) (by decide) dX9_day_264 (fun H locs hW hS => ?_)
                                            have hW : zW g A ([[(x, .inr (12, [.ref a0, .ref a1, .ref a2, .int (nI k), .ref a3, .ref a4, .ref a5, .int (nI ty), .int thr, .int (nI at_), .int (zb bF), .int val, .ref a6, .int (nI tl), .int (zb bc)]))], [(a, .inl (g.2.1 0, 89, .inl (upd (upd c ((8 + (3 * q)) + 2) ((c ((8 + (3 * q)) + 2)) + (((c (8 + (3 * q))) + (c 1)) - 999))) (8 + (3 * q)) 999)))]] : List va_W) H := hW
                                            refine lv_iinc (v := nI (q + 1)) (lv' := [(4, .int (nI (q + 1))), (5, .int ((c (8 + (3 * q))) + (c 1))), (0, .ref x), (1, .ref a)]) hx hb dX9_day_265 hl (k := 3) rfl (zx_add rfl rfl) (by decide) rfl (fun ls hl => ?_)
                                            have hls := hl.1
                                            refine lv_goto (tgt := 186) hx hb dX9_day_268 (by decide) ?_
                                            exact ih186 (q + 1) (by omega) (by omega) _ (by simp only [m_sltL, ← hc, m_slt, if_neg c190_5, if_neg c225_6, if_neg c253_8]) _ _ hW hS _ (lv_sub hl [2, 3, 0] rfl)
                                  exact hj186 (6 + 1) (0) (by omega) (by omega) _ (by rw [hc]; rfl) _ _ hW hS _ (lv_sub hl [1, 2, 0] rfl)
                                · skip
                                  have kc149_4 := mt (zn_le (a := n) (b := b) rfl rfl (by omega) (by omega)).mpr c149_4
                                  refine lv_aload_n hx hb dX9_day_152 rfl (lv_at hl 1 rfl) ?_
                                  refine lv_iload hx hb dX9_day_153 (lv_at hl 2 rfl) ?_
                                  refine lv_iconst (v := 1) hx hb dX9_day_155 rfl ?_
                                  refine zc_ro (zr_S (As := [.ref a, .int (nI b), .int 1]) (rest := []) X (m_X9_bargeIn l g a c b 1 (by omega)) zL_RX9_58 (zH.cons (va_P.one (hW.H.at 1 0 rfl rfl)) zH.nil) hS hA0 hls rfl (Nat.le_of_ble_eq_true rfl) ⟨rfl, rfl, Nat.le_of_ble_eq_true rfl, Nat.le_of_ble_eq_true rfl, (Nat.le_of_ble_eq_true rfl), (Nat.le_of_ble_eq_true rfl)⟩ dX9_day_156) ?_
                                  refine lv_if_ne (tgt := 177) hx hb dX9_day_159 (by decide) (fun c159_9 => ?_) (fun c159_9 => ?_)
                                  · skip
                                    refine lv_iinc (v := nI (b + 1)) (lv' := [(4, .int (nI (b + 1))), (0, .ref x), (1, .ref a)]) hx hb dX9_day_177 hl (k := 2) rfl (zx_add rfl rfl) (by decide) rfl (fun ls hl => ?_)
                                    have hls := hl.1
                                    refine lv_goto (tgt := 143) hx hb dX9_day_180 (by decide) ?_
                                    exact ih143 (b + 1) (by omega) (by omega) _ (by simp [m_sendL, ← hc, c149_4, c159_9]) _ _ hW hS _ (lv_sub hl [1, 2, 0] rfl)
                                  · skip
                                    refine lv_aload_n hx hb dX9_day_162 rfl (lv_at hl 1 rfl) ?_
                                    refine lv_iload hx hb dX9_day_163 (lv_at hl 2 rfl) ?_
                                    refine zc_ro (zr_S (As := [.ref a, .int (nI b)]) (rest := []) X (m_X9_wantsToGo l g a c b r (by omega) (by omega) (by first | exact h5c | exact h5 | (simp (disch := omega) only [upd_n]; first | exact h5c | exact h5))) zL_RX9_108 (zH.cons (va_P.one (hW.H.at 1 0 rfl rfl)) zH.nil) hS hA0 hls rfl (Nat.le_of_ble_eq_true rfl) ⟨rfl, rfl, Nat.le_of_ble_eq_true rfl, Nat.le_of_ble_eq_true rfl, (Nat.le_of_ble_eq_true rfl), (Nat.le_of_ble_eq_true rfl)⟩ dX9_day_165) ?_
                                    refine zb_ifeq (tgt := 177) hx hb dX9_day_168 (by decide) (fun c168_10 => ?_) (fun c168_10 => ?_)
                                    · skip
                                      refine lv_iinc (v := nI (b + 1)) (lv' := [(4, .int (nI (b + 1))), (0, .ref x), (1, .ref a)]) hx hb dX9_day_177 hl (k := 2) rfl (zx_add rfl rfl) (by decide) rfl (fun ls hl => ?_)
                                      have hls := hl.1
                                      refine lv_goto (tgt := 143) hx hb dX9_day_180 (by decide) ?_
                                      exact ih143 (b + 1) (by omega) (by omega) _ (by simp [m_sendL, ← hc, c149_4, c159_9, c168_10]) _ _ hW hS _ (lv_sub hl [1, 2, 0] rfl)
                                    · skip
                                      refine lv_aload_n hx hb dX9_day_171 rfl (lv_at hl 1 rfl) ?_
                                      refine lv_iload hx hb dX9_day_172 (lv_at hl 2 rfl) ?_
                                      have hW := hW.perm (gs' := ([[(a, .inl (g.2.1 0, 89, .inl c))], [(x, .inr (12, [.ref a0, .ref a1, .ref a2, .int (nI k), .ref a3, .ref a4, .ref a5, .int (nI ty), .int thr, .int (nI at_), .int (zb bF), .int val, .ref a6, .int (nI tl), .int (zb bc)]))]] : List va_W)) [1, 0] 2 rfl (by decide) rfl
                                      refine zc_wr (gc := [[(a, .inl (g.2.1 0, 89, .inl c))]]) (gr := [[(x, .inr (12, [.ref a0, .ref a1, .ref a2, .int (nI k), .ref a3, .ref a4, .ref a5, .int (nI ty), .int thr, .int (nI at_), .int (zb bF), .int val, .ref a6, .int (nI tl), .int (zb bc)]))]]) (zr_S (As := [.ref a, .int (nI b)]) (rest := []) X (m_X9_goes l g a c b n (by omega) (by omega) (by first | exact h6c | exact h6 | (simp (disch := omega) only [upd_n]; first | exact h6c | exact h6)) _) zL_RX9_111 (zW.pre (gc := [[(a, .inl (g.2.1 0, 89, .inl c))]]) (gr := [[(x, .inr (12, [.ref a0, .ref a1, .ref a2, .int (nI k), .ref a3, .ref a4, .ref a5, .int (nI ty), .int thr, .int (nI at_), .int (zb bF), .int val, .ref a6, .int (nI tl), .int (zb bc)]))]]) hW hA0) hS hA0 hls rfl (Nat.le_of_ble_eq_true rfl) ⟨rfl, rfl, Nat.le_of_ble_eq_true rfl, Nat.le_of_ble_eq_true rfl, (Nat.le_of_ble_eq_true rfl), (Nat.le_of_ble_eq_true rfl)⟩ dX9_day_174) hW hS hA (fun v gc' H locs hpost hW hS => ?_)
                                      obtain ⟨rfl, rfl⟩ := hpost
                                      have hW : zW g A ([[(a, .inl (g.2.1 0, 89, .inl (m_goes c n b)))], [(x, .inr (12, [.ref a0, .ref a1, .ref a2, .int (nI k), .ref a3, .ref a4, .ref a5, .int (nI ty), .int thr, .int (nI at_), .int (zb bF), .int val, .ref a6, .int (nI tl), .int (zb bc)]))]] : List va_W) H := hW
                                      refine W.eq (g2 := F0 zm 177 ls []) rfl ?_
                                      refine lv_iinc (v := nI (b + 1)) (lv' := [(4, .int (nI (b + 1))), (0, .ref x), (1, .ref a)]) hx hb dX9_day_177 hl (k := 2) rfl (zx_add rfl rfl) (by decide) rfl (fun ls hl => ?_)
                                      have hls := hl.1
                                      refine lv_goto (tgt := 143) hx hb dX9_day_180 (by decide) ?_
                                      have hW := hW.perm (gs' := ([[(x, .inr (12, [.ref a0, .ref a1, .ref a2, .int (nI k), .ref a3, .ref a4, .ref a5, .int (nI ty), .int thr, .int (nI at_), .int (zb bF), .int val, .ref a6, .int (nI tl), .int (zb bc)]))], [(a, .inl (g.2.1 0, 89, .inl (m_goes c n b)))]] : List va_W)) [1, 0] 2 rfl (by decide) rfl
                                      exact ih143 (b + 1) (by omega) (by omega) _ (by simp [m_sendL, ← hc, c149_4, c159_9, c168_10]) _ _ hW hS _ (lv_sub hl [1, 2, 0] rfl)
                            exact hj143 (n + 1) (0) (by omega) (by omega) _ (by rw [hc1]; rfl) _ _ hW hS _ (lv_sub hl [1, 2, 0] rfl)
                          refine lv_aload_n hx hb dX9_day_124 rfl (lv_at hl 0 rfl) ?_
                          refine lv_aload_n hx hb dX9_day_125 rfl (lv_at hl 1 rfl) ?_
                          refine zc_ro (zr_S (As := [.ref a]) (rest := [.ref x]) X (m_X9_siltIn l g a c r (by omega) (by first | exact h5c | exact h5 | (simp (disch := omega) only [upd_n]; first | exact h5c | exact h5))) zL_RX9_81 (zH.cons (va_P.one (hW.H.at 1 0 rfl rfl)) zH.nil) hS hA0 hls rfl (Nat.le_of_ble_eq_true rfl) ⟨rfl, rfl, Nat.le_of_ble_eq_true rfl, Nat.le_of_ble_eq_true rfl, (Nat.le_of_ble_eq_true rfl), (Nat.le_of_ble_eq_true rfl)⟩ dX9_day_126) ?_
                          refine lv_if_ne (tgt := 136) hx hb dX9_day_129 (by decide) (fun c129_11 => ?_) (fun c129_11 => ?_)
                          · skip
                            refine lv_iconst (v := 0) hx hb dX9_day_136 rfl ?_
                            exact hj137 false (by simp only [m_clear, m_d4, ← hc1]; simp [c91_3, c129_11]) _ _ hW hS _ (lv_sub hl [0, 1] rfl)
                          · skip
                            refine lv_iconst (v := 1) hx hb dX9_day_132 rfl ?_
                            refine lv_goto (tgt := 137) hx hb dX9_day_133 (by decide) ?_
                            exact hj137 true (by simp only [m_clear, m_d4, ← hc1]; simp [c91_3, c129_11]) _ _ hW hS _ (lv_sub hl [0, 1] rfl)
                        · skip
                          have kc91_3 := mt (zn_le (a := n) (b := b) rfl rfl (by omega) (by omega)).mpr c91_3
                          refine lv_iload_n hx hb dX9_day_94 rfl (lv_at hl 2 rfl) ?_
                          refine lv_aload_n hx hb dX9_day_95 rfl (lv_at hl 1 rfl) ?_
                          refine lv_iload hx hb dX9_day_96 (lv_at hl 3 rfl) ?_
                          refine lv_iconst (v := 1) hx hb dX9_day_98 rfl ?_
                          refine zc_ro (zr_S (As := [.ref a, .int (nI b), .int 1]) (rest := [.int lf]) X (m_X9_bargeIn l g a c b 1 (by omega)) zL_RX9_58 (zH.cons (va_P.one (hW.H.at 1 0 rfl rfl)) zH.nil) hS hA0 hls rfl (Nat.le_of_ble_eq_true rfl) ⟨rfl, rfl, Nat.le_of_ble_eq_true rfl, Nat.le_of_ble_eq_true rfl, (Nat.le_of_ble_eq_true rfl), (Nat.le_of_ble_eq_true rfl)⟩ dX9_day_99) ?_
                          refine lv_if_ne (tgt := 115) hx hb dX9_day_102 (by decide) (fun c102_12 => ?_) (fun c102_12 => ?_)
                          · skip
                            refine lv_iconst (v := 0) hx hb dX9_day_115 rfl ?_
                            refine lv_isub hx hb dX9_day_116 ?_
                            refine lv_istore_n (lv' := [(3, .int (lf - 0)), (0, .ref x), (1, .ref a), (4, .int (nI b))]) hx hb dX9_day_117 rfl hl (by decide) rfl (fun ls hl => ?_)
                            have hls := hl.1
                            refine lv_iinc (v := nI (b + 1)) (lv' := [(4, .int (nI (b + 1))), (3, .int (lf - 0)), (0, .ref x), (1, .ref a)]) hx hb dX9_day_118 hl (k := 3) rfl (zx_add rfl rfl) (by decide) rfl (fun ls hl => ?_)
                            have hls := hl.1
                            refine lv_goto (tgt := 85) hx hb dX9_day_121 (by decide) ?_
                            exact ih85 (b + 1) (by omega) (by omega) _ _ (by simp only [m_raiL, ← hc, if_neg c91_3, if_neg c102_12]) _ _ hW hS _ (lv_sub hl [2, 3, 1, 0] rfl)
                          · skip
                            refine lv_aload_n hx hb dX9_day_105 rfl (lv_at hl 1 rfl) ?_
                            refine lv_iload hx hb dX9_day_106 (lv_at hl 3 rfl) ?_
                            refine lv_iload_n hx hb dX9_day_108 rfl (lv_at hl 2 rfl) ?_
                            have hW := hW.perm (gs' := ([[(a, .inl (g.2.1 0, 89, .inl c))], [(x, .inr (12, [.ref a0, .ref a1, .ref a2, .int (nI k), .ref a3, .ref a4, .ref a5, .int (nI ty), .int thr, .int (nI at_), .int (zb bF), .int val, .ref a6, .int (nI tl), .int (zb bC)]))]] : List va_W)) [1, 0] 2 rfl (by decide) rfl
                            refine zc_wr (gc := [[(a, .inl (g.2.1 0, 89, .inl c))]]) (gr := [[(x, .inr (12, [.ref a0, .ref a1, .ref a2, .int (nI k), .ref a3, .ref a4, .ref a5, .int (nI ty), .int thr, .int (nI at_), .int (zb bF), .int val, .ref a6, .int (nI tl), .int (zb bC)]))]]) (zr_S (As := [.ref a, .int (nI b), .int lf]) (rest := [.int lf]) X (m_X9_raises l g a c b r lf (by omega) (by omega) (by first | exact h5c | exact h5 | (simp (disch := omega) only [upd_n]; first | exact h5c | exact h5)) _) zL_RX9_101 (zW.pre (gc := [[(a, .inl (g.2.1 0, 89, .inl c))]]) (gr := [[(x, .inr (12, [.ref a0, .ref a1, .ref a2, .int (nI k), .ref a3, .ref a4, .ref a5, .int (nI ty), .int thr, .int (nI at_), .int (zb bF), .int val, .ref a6, .int (nI tl), .int (zb bC)]))]]) hW hA0) hS hA0 hls rfl (Nat.le_of_ble_eq_true rfl) ⟨rfl, rfl, Nat.le_of_ble_eq_true rfl, Nat.le_of_ble_eq_true rfl, (Nat.le_of_ble_eq_true rfl), (Nat.le_of_ble_eq_true rfl)⟩ dX9_day_109) hW hS hA (fun v gc' H locs hpost hW hS => ?_)
                            obtain ⟨rfl, rfl⟩ := hpost
                            have hW : zW g A ([[(a, .inl (g.2.1 0, 89, .inl (m_rai c b r (m_rld c b r lf))))], [(x, .inr (12, [.ref a0, .ref a1, .ref a2, .int (nI k), .ref a3, .ref a4, .ref a5, .int (nI ty), .int thr, .int (nI at_), .int (zb bF), .int val, .ref a6, .int (nI tl), .int (zb bC)]))]] : List va_W) H := hW
                            refine W.eq (g2 := F0 zm 112 ls [.int (m_rld c b r lf), .int lf]) rfl ?_
                            refine lv_goto (tgt := 116) hx hb dX9_day_112 (by decide) ?_
                            refine lv_isub hx hb dX9_day_116 ?_
                            refine lv_istore_n (lv' := [(3, .int (lf - (m_rld c b r lf))), (0, .ref x), (1, .ref a), (4, .int (nI b))]) hx hb dX9_day_117 rfl hl (by decide) rfl (fun ls hl => ?_)
                            have hls := hl.1
                            refine lv_iinc (v := nI (b + 1)) (lv' := [(4, .int (nI (b + 1))), (3, .int (lf - (m_rld c b r lf))), (0, .ref x), (1, .ref a)]) hx hb dX9_day_118 hl (k := 3) rfl (zx_add rfl rfl) (by decide) rfl (fun ls hl => ?_)
                            have hls := hl.1
                            refine lv_goto (tgt := 85) hx hb dX9_day_121 (by decide) ?_
                            have hW := hW.perm (gs' := ([[(x, .inr (12, [.ref a0, .ref a1, .ref a2, .int (nI k), .ref a3, .ref a4, .ref a5, .int (nI ty), .int thr, .int (nI at_), .int (zb bF), .int val, .ref a6, .int (nI tl), .int (zb bC)]))], [(a, .inl (g.2.1 0, 89, .inl (m_rai c b r (m_rld c b r lf))))]] : List va_W)) [1, 0] 2 rfl (by decide) rfl
                            exact ih85 (b + 1) (by omega) (by omega) _ _ (by simp only [m_raiL, ← hc, if_neg c91_3, if_pos c102_12]) _ _ hW hS _ (lv_sub hl [2, 3, 1, 0] rfl)
                    exact hj85 (n + 1) (0) (by omega) (by omega) _ _ (by rw [hc1]; rfl) _ _ hW hS _ (lv_sub hl [2, 3, 1, 0] rfl)
                  · skip
                    have kc48_2 := mt (zn_le (a := n) (b := b) rfl rfl (by omega) (by omega)).mpr c48_2
                    refine lv_aload_n hx hb dX9_day_51 rfl (lv_at hl 1 rfl) ?_
                    refine lv_iload_n hx hb dX9_day_52 rfl (lv_at hl 3 rfl) ?_
                    refine lv_iconst (v := 1) hx hb dX9_day_53 rfl ?_
                    refine zc_ro (zr_S (As := [.ref a, .int (nI b), .int 1]) (rest := []) X (m_X9_bargeIn l g a c b 1 (by omega)) zL_RX9_58 (zH.cons (va_P.one (hW.H.at 1 0 rfl rfl)) zH.nil) hS hA0 hls rfl (Nat.le_of_ble_eq_true rfl) ⟨rfl, rfl, Nat.le_of_ble_eq_true rfl, Nat.le_of_ble_eq_true rfl, (Nat.le_of_ble_eq_true rfl), (Nat.le_of_ble_eq_true rfl)⟩ dX9_day_54) ?_
                    refine lv_iconst (v := 2) hx hb dX9_day_57 rfl ?_
                    refine lv_icmp_ne (tgt := 70) hx hb dX9_day_58 (by decide) (fun c58_13 => ?_) (fun c58_13 => ?_)
                    · skip
                      refine lv_iload_n hx hb dX9_day_70 rfl (lv_at hl 2 rfl) ?_
                      refine lv_istore_n (lv' := [(2, .int dn), (0, .ref x), (1, .ref a), (3, .int (nI b))]) hx hb dX9_day_71 rfl hl (by decide) rfl (fun ls hl => ?_)
                      have hls := hl.1
                      refine lv_iinc (v := nI (b + 1)) (lv' := [(3, .int (nI (b + 1))), (2, .int dn), (0, .ref x), (1, .ref a)]) hx hb dX9_day_72 hl (k := 3) rfl (zx_add rfl rfl) (by decide) rfl (fun ls hl => ?_)
                      have hls := hl.1
                      refine lv_goto (tgt := 43) hx hb dX9_day_75 (by decide) ?_
                      exact ih43 (b + 1) (by omega) (by omega) _ _ (by simp only [m_layL, ← hc, if_neg c48_2, if_neg c58_13]) _ _ hW hS _ (lv_sub hl [2, 3, 1, 0] rfl)
                    · skip
                      obtain ⟨mm, hmm, hgg⟩ := hlay b (by omega) (by rw [← hc]; exact c58_13)
                      rw [← hc] at hgg
                      dsimp only at hgg
                      refine lv_aload_n hx hb dX9_day_61 rfl (lv_at hl 1 rfl) ?_
                      refine lv_iload_n hx hb dX9_day_62 rfl (lv_at hl 3 rfl) ?_
                      refine lv_iload_n hx hb dX9_day_63 rfl (lv_at hl 2 rfl) ?_
                      have hW := hW.perm (gs' := ([[(a, .inl (g.2.1 0, 89, .inl c))], [(x, .inr (12, [.ref a0, .ref a1, .ref a2, .int (nI k), .ref a3, .ref a4, .ref a5, .int (nI ty), .int thr, .int (nI at_), .int (zb bF), .int val, .ref a6, .int (nI tl), .int (zb bC)]))]] : List va_W)) [1, 0] 2 rfl (by decide) rfl
                      refine zc_wr (gc := [[(a, .inl (g.2.1 0, 89, .inl c))]]) (gr := [[(x, .inr (12, [.ref a0, .ref a1, .ref a2, .int (nI k), .ref a3, .ref a4, .ref a5, .int (nI ty), .int thr, .int (nI at_), .int (zb bF), .int val, .ref a6, .int (nI tl), .int (zb bC)]))]]) (zr_S (As := [.ref a, .int (nI b), .int dn]) (rest := []) X (m_X9_lays l g a c b mm dn (by omega) hmm hgg _) zL_RX9_98 (zW.pre (gc := [[(a, .inl (g.2.1 0, 89, .inl c))]]) (gr := [[(x, .inr (12, [.ref a0, .ref a1, .ref a2, .int (nI k), .ref a3, .ref a4, .ref a5, .int (nI ty), .int thr, .int (nI at_), .int (zb bF), .int val, .ref a6, .int (nI tl), .int (zb bC)]))]]) hW hA0) hS hA0 hls rfl (Nat.le_of_ble_eq_true rfl) ⟨rfl, rfl, Nat.le_of_ble_eq_true rfl, Nat.le_of_ble_eq_true rfl, (Nat.le_of_ble_eq_true rfl), (Nat.le_of_ble_eq_true rfl)⟩ dX9_day_64) hW hS hA (fun v gc' H locs hpost hW hS => ?_)
                      obtain ⟨rfl, rfl⟩ := hpost
                      have hW : zW g A ([[(a, .inl (g.2.1 0, 89, .inl (m_lay c b mm (m_lds c b mm dn))))], [(x, .inr (12, [.ref a0, .ref a1, .ref a2, .int (nI k), .ref a3, .ref a4, .ref a5, .int (nI ty), .int thr, .int (nI at_), .int (zb bF), .int val, .ref a6, .int (nI tl), .int (zb bC)]))]] : List va_W) H := hW
                      refine W.eq (g2 := F0 zm 67 ls [.int (m_don dn mm (m_lds c b mm dn))]) rfl ?_
                      refine lv_goto (tgt := 71) hx hb dX9_day_67 (by decide) ?_
                      refine lv_istore_n (lv' := [(2, .int (m_don dn mm (m_lds c b mm dn))), (0, .ref x), (1, .ref a), (3, .int (nI b))]) hx hb dX9_day_71 rfl hl (by decide) rfl (fun ls hl => ?_)
                      have hls := hl.1
                      refine lv_iinc (v := nI (b + 1)) (lv' := [(3, .int (nI (b + 1))), (2, .int (m_don dn mm (m_lds c b mm dn))), (0, .ref x), (1, .ref a)]) hx hb dX9_day_72 hl (k := 3) rfl (zx_add rfl rfl) (by decide) rfl (fun ls hl => ?_)
                      have hls := hl.1
                      refine lv_goto (tgt := 43) hx hb dX9_day_75 (by decide) ?_
                      have hW := hW.perm (gs' := ([[(x, .inr (12, [.ref a0, .ref a1, .ref a2, .int (nI k), .ref a3, .ref a4, .ref a5, .int (nI ty), .int thr, .int (nI at_), .int (zb bF), .int val, .ref a6, .int (nI tl), .int (zb bC)]))], [(a, .inl (g.2.1 0, 89, .inl (m_lay c b mm (m_lds c b mm dn))))]] : List va_W)) [1, 0] 2 rfl (by decide) rfl
                      exact ih43 (b + 1) (by omega) (by omega) _ _ (by simp only [m_layL, ← hc, hgg, nI_clamp (show mm < 2 ^ 31 by omega), if_neg c48_2, if_pos c58_13]) _ _ hW hS _ (lv_sub hl [2, 3, 1, 0] rfl)
              exact hj43 (n + 1) (0) (by omega) (by omega) _ _ (by rw [hc]; rfl) _ _ hW hS _ (lv_sub hl [2, 3, 1, 0] rfl)
            · skip
              have kc25_1 := mt (zn_le (a := n) (b := b) rfl rfl (by omega) (by omega)).mpr c25_1
              refine lv_aload_n hx hb dX9_day_28 rfl (lv_at hl 1 rfl) ?_
              refine lv_iload_n hx hb dX9_day_29 rfl (lv_at hl 2 rfl) ?_
              have hW := hW.perm (gs' := ([[(a, .inl (g.2.1 0, 89, .inl c))], [(x, .inr (12, [.ref a0, .ref a1, .ref a2, .int (nI k), .ref a3, .ref a4, .ref a5, .int (nI ty), .int thr, .int (nI at_), .int (zb bF), .int val, .ref a6, .int (nI tl), .int (zb bC)]))]] : List va_W)) [1, 0] 2 rfl (by decide) rfl
              refine zc_wr (gc := [[(a, .inl (g.2.1 0, 89, .inl c))]]) (gr := [[(x, .inr (12, [.ref a0, .ref a1, .ref a2, .int (nI k), .ref a3, .ref a4, .ref a5, .int (nI ty), .int thr, .int (nI at_), .int (zb bF), .int val, .ref a6, .int (nI tl), .int (zb bC)]))]]) (zr_S (As := [.ref a, .int (nI b)]) (rest := []) X (m_X9_comesNearer l g a c b (by omega) _) zL_RX9_95 (zW.pre (gc := [[(a, .inl (g.2.1 0, 89, .inl c))]]) (gr := [[(x, .inr (12, [.ref a0, .ref a1, .ref a2, .int (nI k), .ref a3, .ref a4, .ref a5, .int (nI ty), .int thr, .int (nI at_), .int (zb bF), .int val, .ref a6, .int (nI tl), .int (zb bC)]))]]) hW hA0) hS hA0 hls rfl (Nat.le_of_ble_eq_true rfl) ⟨rfl, rfl, Nat.le_of_ble_eq_true rfl, Nat.le_of_ble_eq_true rfl, (Nat.le_of_ble_eq_true rfl), (Nat.le_of_ble_eq_true rfl)⟩ dX9_day_30) hW hS hA (fun v gc' H locs hpost hW hS => ?_)
              obtain ⟨rfl, rfl⟩ := hpost
              have hW : zW g A ([[(a, .inl (g.2.1 0, 89, .inl (m_come c b)))], [(x, .inr (12, [.ref a0, .ref a1, .ref a2, .int (nI k), .ref a3, .ref a4, .ref a5, .int (nI ty), .int thr, .int (nI at_), .int (zb bF), .int val, .ref a6, .int (nI tl), .int (zb bC)]))]] : List va_W) H := hW
              refine W.eq (g2 := F0 zm 33 ls []) rfl ?_
              refine lv_iinc (v := nI (b + 1)) (lv' := [(2, .int (nI (b + 1))), (0, .ref x), (1, .ref a)]) hx hb dX9_day_33 hl (k := 2) rfl (zx_add rfl rfl) (by decide) rfl (fun ls hl => ?_)
              have hls := hl.1
              refine lv_goto (tgt := 20) hx hb dX9_day_36 (by decide) ?_
              have hW := hW.perm (gs' := ([[(x, .inr (12, [.ref a0, .ref a1, .ref a2, .int (nI k), .ref a3, .ref a4, .ref a5, .int (nI ty), .int thr, .int (nI at_), .int (zb bF), .int val, .ref a6, .int (nI tl), .int (zb bC)]))], [(a, .inl (g.2.1 0, 89, .inl (m_come c b)))]] : List va_W)) [1, 0] 2 rfl (by decide) rfl
              exact ih20 (b + 1) (by omega) (by omega) _ (by rw [hc]; rfl) _ _ hW hS _ (lv_sub hl [1, 2, 0] rfl)
        exact hj20 (n + 1) (0) (by omega) (by omega) _ (by rw [hc]; rfl) _ _ hW hS _ (lv_sub hl [1, 2, 0] rfl)
      · skip
        have kc4_0 := mt (zn_le (a := 5) (b := m) rfl rfl (by omega) (by omega)).mpr c4_0
        refine lv_aload_n hx hb dX9_day_7 rfl (lv_at hl 1 rfl) ?_
        refine lv_iload_n hx hb dX9_day_8 rfl (lv_at hl 2 rfl) ?_
        have hW := hW.perm (gs' := ([[(a, .inl (g.2.1 0, 89, .inl c))], [(x, .inr (12, [.ref a0, .ref a1, .ref a2, .int (nI k), .ref a3, .ref a4, .ref a5, .int (nI ty), .int thr, .int (nI at_), .int (zb bF), .int val, .ref a6, .int (nI tl), .int (zb bC)]))]] : List va_W)) [1, 0] 2 rfl (by decide) rfl
        refine zc_wr (gc := [[(a, .inl (g.2.1 0, 89, .inl c))]]) (gr := [[(x, .inr (12, [.ref a0, .ref a1, .ref a2, .int (nI k), .ref a3, .ref a4, .ref a5, .int (nI ty), .int thr, .int (nI at_), .int (zb bF), .int val, .ref a6, .int (nI tl), .int (zb bC)]))]]) (zr_S (As := [.ref a, .int (nI m)]) (rest := []) X (m_X9_dries l g a c m (by omega) _) zL_RX9_91 (zW.pre (gc := [[(a, .inl (g.2.1 0, 89, .inl c))]]) (gr := [[(x, .inr (12, [.ref a0, .ref a1, .ref a2, .int (nI k), .ref a3, .ref a4, .ref a5, .int (nI ty), .int thr, .int (nI at_), .int (zb bF), .int val, .ref a6, .int (nI tl), .int (zb bC)]))]]) hW hA0) hS hA0 hls rfl (Nat.le_of_ble_eq_true rfl) ⟨rfl, rfl, Nat.le_of_ble_eq_true rfl, Nat.le_of_ble_eq_true rfl, (Nat.le_of_ble_eq_true rfl), (Nat.le_of_ble_eq_true rfl)⟩ dX9_day_9) hW hS hA (fun v gc' H locs hpost hW hS => ?_)
        obtain ⟨rfl, rfl⟩ := hpost
        have hW : zW g A ([[(a, .inl (g.2.1 0, 89, .inl (m_dry c m)))], [(x, .inr (12, [.ref a0, .ref a1, .ref a2, .int (nI k), .ref a3, .ref a4, .ref a5, .int (nI ty), .int thr, .int (nI at_), .int (zb bF), .int val, .ref a6, .int (nI tl), .int (zb bC)]))]] : List va_W) H := hW
        refine W.eq (g2 := F0 zm 12 ls []) rfl ?_
        refine lv_iinc (v := nI (m + 1)) (lv' := [(2, .int (nI (m + 1))), (0, .ref x), (1, .ref a)]) hx hb dX9_day_12 hl (k := 2) rfl (zx_add rfl rfl) (by decide) rfl (fun ls hl => ?_)
        have hls := hl.1
        refine lv_goto (tgt := 2) hx hb dX9_day_15 (by decide) ?_
        have hW := hW.perm (gs' := ([[(x, .inr (12, [.ref a0, .ref a1, .ref a2, .int (nI k), .ref a3, .ref a4, .ref a5, .int (nI ty), .int thr, .int (nI at_), .int (zb bF), .int val, .ref a6, .int (nI tl), .int (zb bC)]))], [(a, .inl (g.2.1 0, 89, .inl (m_dry c m)))]] : List va_W)) [1, 0] 2 rfl (by decide) rfl
        exact ih2 (m + 1) (by omega) (by omega) _ (by rw [hc]; rfl) _ _ hW hS _ (lv_sub hl [1, 2, 0] rfl)
  exact hj2 (5 + 1) (0) (by omega) (by omega) _ rfl _ _ hW hS _ (lv_sub hl [1, 2, 0] rfl)
