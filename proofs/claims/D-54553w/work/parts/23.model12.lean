set_option maxRecDepth 100000
theorem zL_RX9_238 : zLS RX9 238 yJ23_doubleToLongBits cJ23_doubleToLongBits 2 (Option.some Jvm.ClassFile.FieldType.long) 1 := ⟨.inl q1953, q1240, q111, q1241, ⟨by decide +kernel, by decide +kernel, by decide +kernel⟩⟩
abbrev rm_X9_digest : Room := { frames := 9, cells := 0, slots := 0, locals := 208 }
set_option maxHeartbeats 4000000 in
set_option maxRecDepth 100000 in
theorem m_X9_digest (l : Launch) (g : zG) (x a0 a1 a2 a3 a4 a5 a6 : Nat) (k ty at_ tl : Nat) (thr val : Int32) (bF bC : Bool) (f t fi tx : Nat → Int32) (n r : Nat) (hn : n ≤ 4) (h6 : f 6 = nI n) (hr6 : r < 6) (h5 : f 5 = nI r) (hla : m_allOk f n) (hty : ty ≤ 60) (hgo4 : ∀ b, b < n → m_b f b 1 = 2 → ∃ mm, mm < 5 ∧ m_b f b 3 = nI mm) (sz : Nat) : zWR l yX9_digest cX9_digest 4 (Option.some Jvm.ClassFile.FieldType.long) rm_X9_digest g [.ref x] ([[(x, .inr (12, [.ref a0, .ref a1, .ref a2, .int (nI k), .ref a3, .ref a4, .ref a5, .int (nI ty), .int thr, .int (nI at_), .int (zb bF), .int val, .ref a6, .int (nI tl), .int (zb bC)]))], [(a0, .inl (g.2.1 0, 89, .inl f))], [(a1, .inl (g.2.1 0, 89, .inl t))], [(a4, .inl (g.2.1 2, 2, .inl fi))], [(a5, .inl (g.2.1 0, 60, .inl tx))]] : List va_W) 0 0 sz (fun zv gs' => ∃ (bc : Bool) (t' : Nat → Int32), zv = some (.long (m_dig f fi tx n k r ty)) ∧ gs' = [[(x, .inr (12, [.ref a0, .ref a1, .ref a2, .int (nI k), .ref a3, .ref a4, .ref a5, .int (nI ty), .int 0, .int (nI at_), .int (zb bF), .int val, .ref a6, .int (nI tl), .int (zb bc)]))], [(a0, .inl (g.2.1 0, 89, .inl f))], [(a1, .inl (g.2.1 0, 89, .inl t'))], [(a4, .inl (g.2.1 2, 2, .inl fi))], [(a5, .inl (g.2.1 0, 60, .inl tx))]]) := by
  refine zWR.start (by decide) (Nat.le_of_ble_eq_true rfl) ?_
  intro zp ze s zm zbl zmt zc ls A X hr hlocks hinn hl hAe hW hS hA hA0
  have hx := X.1
  have hb := X.2.1
  have hml := X.2.2.1
  have hown := X.2.2.2.1
  have hls := hl.1
  have hl : lv_has ls 4 [(0, .ref x)] := hl
  refine lv_aload_n hx hb dX9_digest_0 rfl (lv_at hl 0 rfl) ?_
  refine lv_iconst (v := 0) hx hb dX9_digest_1 rfl ?_
  refine z_put X hW hS 0 0 rfl rfl zP_RX9_32_12 rfl rfl (Nat.le_of_ble_eq_true rfl) dX9_digest_2 (fun H locs hW hS => ?_)
  have hW : zW g A ([[(x, .inr (12, [.ref a0, .ref a1, .ref a2, .int (nI k), .ref a3, .ref a4, .ref a5, .int (nI ty), .int 0, .int (nI at_), .int (zb bF), .int val, .ref a6, .int (nI tl), .int (zb bC)]))], [(a0, .inl (g.2.1 0, 89, .inl f))], [(a1, .inl (g.2.1 0, 89, .inl t))], [(a4, .inl (g.2.1 2, 2, .inl fi))], [(a5, .inl (g.2.1 0, 60, .inl tx))]] : List va_W) H := hW
  refine lv_ldc2 (v := 3137) hx hb hown (X.w q1951) dX9_digest_5 ?_
  refine lv_lstore_n (lv' := [(1, .long 3137), (0, .ref x)]) hx hb dX9_digest_8 rfl hl (by decide) rfl (fun ls hl => ?_)
  have hls := hl.1
  refine lv_iconst (v := 0) hx hb dX9_digest_9 rfl ?_
  refine lv_istore_n (lv' := [(3, .int 0), (1, .long 3137), (0, .ref x)]) hx hb dX9_digest_10 rfl hl (by decide) rfl (fun ls hl => ?_)
  have hls := hl.1
  have hj11 : ∀ (zn j : Nat) (h_le : j ≤ 12) (h_fu : 12 < j + zn) (hh : Int64) (bc : Bool) (t1 : Nat → Int32) (hhe : hh = m_fold (m_cnt f n k) 3137 j) (H : Heap) (locs : List Loc), zW g A ([[(x, .inr (12, [.ref a0, .ref a1, .ref a2, .int (nI k), .ref a3, .ref a4, .ref a5, .int (nI ty), .int 0, .int (nI at_), .int (zb bF), .int val, .ref a6, .int (nI tl), .int (zb bc)]))], [(a0, .inl (g.2.1 0, 89, .inl f))], [(a1, .inl (g.2.1 0, 89, .inl t1))], [(a4, .inl (g.2.1 2, 2, .inl fi))], [(a5, .inl (g.2.1 0, 60, .inl tx))]] : List va_W) H → va_S A s.heap H locs → ∀ (ls : Array Slot), lv_has ls 4 [(0, .ref x), (1, .long hh), (3, .int (nI j))] → W zp l ze rm_X9_digest s zm ([.ref x] : List Value).toArray zbl zmt zc H locs 0 0 (MQ zbl (zQW g ([[(x, .inr (12, [.ref a0, .ref a1, .ref a2, .int (nI k), .ref a3, .ref a4, .ref a5, .int (nI ty), .int thr, .int (nI at_), .int (zb bF), .int val, .ref a6, .int (nI tl), .int (zb bC)]))], [(a0, .inl (g.2.1 0, 89, .inl f))], [(a1, .inl (g.2.1 0, 89, .inl t))], [(a4, .inl (g.2.1 2, 2, .inl fi))], [(a5, .inl (g.2.1 0, 60, .inl tx))]] : List va_W) (fun zv gs' => ∃ (bc : Bool) (t' : Nat → Int32), zv = some (.long (m_dig f fi tx n k r ty)) ∧ gs' = [[(x, .inr (12, [.ref a0, .ref a1, .ref a2, .int (nI k), .ref a3, .ref a4, .ref a5, .int (nI ty), .int 0, .int (nI at_), .int (zb bF), .int val, .ref a6, .int (nI tl), .int (zb bc)]))], [(a0, .inl (g.2.1 0, 89, .inl f))], [(a1, .inl (g.2.1 0, 89, .inl t'))], [(a4, .inl (g.2.1 2, 2, .inl fi))], [(a5, .inl (g.2.1 0, 60, .inl tx))]])) ([.ref x] : List Value).toArray s 0 0 A) (F0 zm 11 ls []) := by
    intro zn
    induction zn with
    | zero => intro j h_le h_fu; exact absurd h_fu (by omega)
    | succ zn ih11 =>
      intro j h_le h_fu hh bc t1 hhe H locs hW hS ls hl
      have hls := hl.1
      refine lv_iload_n hx hb dX9_digest_11 rfl (lv_at hl 2 rfl) ?_
      refine lv_bipush (v := 12) hx hb dX9_digest_12 (by decide) ?_
      refine lv_icmp_ge (tgt := 36) hx hb dX9_digest_14 (by decide) (fun c14_0 => ?_) (fun c14_0 => ?_)
      · skip
        have kc14_0 := (zn_le (a := 12) (b := j) rfl rfl (by omega) (by omega)).mp c14_0
        have hjj : j = 12 := by omega
        rw [hjj] at hhe
        refine lv_iconst (v := 0) hx hb dX9_digest_36 rfl ?_
        refine lv_istore_n (lv' := [(3, .int 0), (0, .ref x), (1, .long hh)]) hx hb dX9_digest_37 rfl hl (by decide) rfl (fun ls hl => ?_)
        have hls := hl.1
        have hj38 : ∀ (zn j : Nat) (h_le : j ≤ 4) (h_fu : 4 < j + zn) (hh : Int64) (bc : Bool) (t1 : Nat → Int32) (hhe : hh = m_fold f (m_h1 f n k) j) (H : Heap) (locs : List Loc), zW g A ([[(x, .inr (12, [.ref a0, .ref a1, .ref a2, .int (nI k), .ref a3, .ref a4, .ref a5, .int (nI ty), .int 0, .int (nI at_), .int (zb bF), .int val, .ref a6, .int (nI tl), .int (zb bc)]))], [(a0, .inl (g.2.1 0, 89, .inl f))], [(a1, .inl (g.2.1 0, 89, .inl t1))], [(a4, .inl (g.2.1 2, 2, .inl fi))], [(a5, .inl (g.2.1 0, 60, .inl tx))]] : List va_W) H → va_S A s.heap H locs → ∀ (ls : Array Slot), lv_has ls 4 [(0, .ref x), (1, .long hh), (3, .int (nI j))] → W zp l ze rm_X9_digest s zm ([.ref x] : List Value).toArray zbl zmt zc H locs 0 0 (MQ zbl (zQW g ([[(x, .inr (12, [.ref a0, .ref a1, .ref a2, .int (nI k), .ref a3, .ref a4, .ref a5, .int (nI ty), .int thr, .int (nI at_), .int (zb bF), .int val, .ref a6, .int (nI tl), .int (zb bC)]))], [(a0, .inl (g.2.1 0, 89, .inl f))], [(a1, .inl (g.2.1 0, 89, .inl t))], [(a4, .inl (g.2.1 2, 2, .inl fi))], [(a5, .inl (g.2.1 0, 60, .inl tx))]] : List va_W) (fun zv gs' => ∃ (bc : Bool) (t' : Nat → Int32), zv = some (.long (m_dig f fi tx n k r ty)) ∧ gs' = [[(x, .inr (12, [.ref a0, .ref a1, .ref a2, .int (nI k), .ref a3, .ref a4, .ref a5, .int (nI ty), .int 0, .int (nI at_), .int (zb bF), .int val, .ref a6, .int (nI tl), .int (zb bc)]))], [(a0, .inl (g.2.1 0, 89, .inl f))], [(a1, .inl (g.2.1 0, 89, .inl t'))], [(a4, .inl (g.2.1 2, 2, .inl fi))], [(a5, .inl (g.2.1 0, 60, .inl tx))]])) ([.ref x] : List Value).toArray s 0 0 A) (F0 zm 38 ls []) := by
          intro zn
          induction zn with
          | zero => intro j h_le h_fu; exact absurd h_fu (by omega)
          | succ zn ih38 =>
            intro j h_le h_fu hh bc t1 hhe H locs hW hS ls hl
            have hls := hl.1
            refine lv_iload_n hx hb dX9_digest_38 rfl (lv_at hl 2 rfl) ?_
            refine lv_iconst (v := 4) hx hb dX9_digest_39 rfl ?_
            refine lv_icmp_ge (tgt := 63) hx hb dX9_digest_40 (by decide) (fun c40_1 => ?_) (fun c40_1 => ?_)
            · skip
              have kc40_1 := (zn_le (a := 4) (b := j) rfl rfl (by omega) (by omega)).mp c40_1
              have hjj : j = 4 := by omega
              rw [hjj] at hhe
              refine lv_iconst (v := 0) hx hb dX9_digest_63 rfl ?_
              refine lv_istore_n (lv' := [(3, .int 0), (0, .ref x), (1, .long hh)]) hx hb dX9_digest_64 rfl hl (by decide) rfl (fun ls hl => ?_)
              have hls := hl.1
              have hj65 : ∀ (zn j : Nat) (h_le : j ≤ 18) (h_fu : 18 < j + zn) (hh : Int64) (bc : Bool) (t1 : Nat → Int32) (hhe : hh = m_fold (fun j => f (8 + j)) (m_h2 f n k) j) (H : Heap) (locs : List Loc), zW g A ([[(x, .inr (12, [.ref a0, .ref a1, .ref a2, .int (nI k), .ref a3, .ref a4, .ref a5, .int (nI ty), .int 0, .int (nI at_), .int (zb bF), .int val, .ref a6, .int (nI tl), .int (zb bc)]))], [(a0, .inl (g.2.1 0, 89, .inl f))], [(a1, .inl (g.2.1 0, 89, .inl t1))], [(a4, .inl (g.2.1 2, 2, .inl fi))], [(a5, .inl (g.2.1 0, 60, .inl tx))]] : List va_W) H → va_S A s.heap H locs → ∀ (ls : Array Slot), lv_has ls 4 [(0, .ref x), (1, .long hh), (3, .int (nI j))] → W zp l ze rm_X9_digest s zm ([.ref x] : List Value).toArray zbl zmt zc H locs 0 0 (MQ zbl (zQW g ([[(x, .inr (12, [.ref a0, .ref a1, .ref a2, .int (nI k), .ref a3, .ref a4, .ref a5, .int (nI ty), .int thr, .int (nI at_), .int (zb bF), .int val, .ref a6, .int (nI tl), .int (zb bC)]))], [(a0, .inl (g.2.1 0, 89, .inl f))], [(a1, .inl (g.2.1 0, 89, .inl t))], [(a4, .inl (g.2.1 2, 2, .inl fi))], [(a5, .inl (g.2.1 0, 60, .inl tx))]] : List va_W) (fun zv gs' => ∃ (bc : Bool) (t' : Nat → Int32), zv = some (.long (m_dig f fi tx n k r ty)) ∧ gs' = [[(x, .inr (12, [.ref a0, .ref a1, .ref a2, .int (nI k), .ref a3, .ref a4, .ref a5, .int (nI ty), .int 0, .int (nI at_), .int (zb bF), .int val, .ref a6, .int (nI tl), .int (zb bc)]))], [(a0, .inl (g.2.1 0, 89, .inl f))], [(a1, .inl (g.2.1 0, 89, .inl t'))], [(a4, .inl (g.2.1 2, 2, .inl fi))], [(a5, .inl (g.2.1 0, 60, .inl tx))]])) ([.ref x] : List Value).toArray s 0 0 A) (F0 zm 65 ls []) := by
                intro zn
                induction zn with
                | zero => intro j h_le h_fu; exact absurd h_fu (by omega)
                | succ zn ih65 =>
                  intro j h_le h_fu hh bc t1 hhe H locs hW hS ls hl
                  have hls := hl.1
                  refine lv_iload_n hx hb dX9_digest_65 rfl (lv_at hl 2 rfl) ?_
                  refine lv_bipush (v := 18) hx hb dX9_digest_66 (by decide) ?_
                  refine lv_icmp_ge (tgt := 94) hx hb dX9_digest_68 (by decide) (fun c68_2 => ?_) (fun c68_2 => ?_)
                  · skip
                    have kc68_2 := (zn_le (a := 18) (b := j) rfl rfl (by omega) (by omega)).mp c68_2
                    have hjj : j = 18 := by omega
                    rw [hjj] at hhe
                    refine lv_iconst (v := 0) hx hb dX9_digest_94 rfl ?_
                    refine lv_istore_n (lv' := [(3, .int 0), (0, .ref x), (1, .long hh)]) hx hb dX9_digest_95 rfl hl (by decide) rfl (fun ls hl => ?_)
                    have hls := hl.1
                    have hj96 : ∀ (zn j : Nat) (h_le : j ≤ 8 * n) (h_fu : 8 * n < j + zn) (hh : Int64) (bc : Bool) (t1 : Nat → Int32) (hhe : hh = m_fold (fun j => m_ofB f n r (j / 8) (j % 8)) (m_h3 f n k) j) (H : Heap) (locs : List Loc), zW g A ([[(x, .inr (12, [.ref a0, .ref a1, .ref a2, .int (nI k), .ref a3, .ref a4, .ref a5, .int (nI ty), .int 0, .int (nI at_), .int (zb bF), .int val, .ref a6, .int (nI tl), .int (zb bc)]))], [(a0, .inl (g.2.1 0, 89, .inl f))], [(a1, .inl (g.2.1 0, 89, .inl t1))], [(a4, .inl (g.2.1 2, 2, .inl fi))], [(a5, .inl (g.2.1 0, 60, .inl tx))]] : List va_W) H → va_S A s.heap H locs → ∀ (ls : Array Slot), lv_has ls 4 [(0, .ref x), (1, .long hh), (3, .int (nI j))] → W zp l ze rm_X9_digest s zm ([.ref x] : List Value).toArray zbl zmt zc H locs 0 0 (MQ zbl (zQW g ([[(x, .inr (12, [.ref a0, .ref a1, .ref a2, .int (nI k), .ref a3, .ref a4, .ref a5, .int (nI ty), .int thr, .int (nI at_), .int (zb bF), .int val, .ref a6, .int (nI tl), .int (zb bC)]))], [(a0, .inl (g.2.1 0, 89, .inl f))], [(a1, .inl (g.2.1 0, 89, .inl t))], [(a4, .inl (g.2.1 2, 2, .inl fi))], [(a5, .inl (g.2.1 0, 60, .inl tx))]] : List va_W) (fun zv gs' => ∃ (bc : Bool) (t' : Nat → Int32), zv = some (.long (m_dig f fi tx n k r ty)) ∧ gs' = [[(x, .inr (12, [.ref a0, .ref a1, .ref a2, .int (nI k), .ref a3, .ref a4, .ref a5, .int (nI ty), .int 0, .int (nI at_), .int (zb bF), .int val, .ref a6, .int (nI tl), .int (zb bc)]))], [(a0, .inl (g.2.1 0, 89, .inl f))], [(a1, .inl (g.2.1 0, 89, .inl t'))], [(a4, .inl (g.2.1 2, 2, .inl fi))], [(a5, .inl (g.2.1 0, 60, .inl tx))]])) ([.ref x] : List Value).toArray s 0 0 A) (F0 zm 96 ls []) := by
                      intro zn
                      induction zn with
                      | zero => intro j h_le h_fu; exact absurd h_fu (by omega)
                      | succ zn ih96 =>
                        intro j h_le h_fu hh bc t1 hhe H locs hW hS ls hl
                        have hls := hl.1
                        refine lv_iload_n hx hb dX9_digest_96 rfl (lv_at hl 2 rfl) ?_
                        refine lv_bipush (v := 8) hx hb dX9_digest_97 (by decide) ?_
                        refine lv_aload_n hx hb dX9_digest_99 rfl (lv_at hl 0 rfl) ?_
                        refine z_get X (hW.H.at 0 0 rfl rfl) zF_RX9_7_12 rfl dX9_digest_100 ?_
                        refine lv_bipush (v := 6) hx hb dX9_digest_103 (by decide) ?_
                        refine z_iald X (j := 6) (hW.H.at 1 0 rfl rfl) rfl (by omega) (by decide) dX9_digest_105 ?_
                        refine z_stk (b := [.int (nI n), .int 8, .int (nI j)]) (by rw [show (f 6) = nI n from h6]) ?_
                        refine lv_imul hx hb dX9_digest_106 ?_
                        refine lv_icmp_ge (tgt := 136) hx hb dX9_digest_107 (by decide) (fun c107_3 => ?_) (fun c107_3 => ?_)
                        · skip
                          have kc107_3 := (zn_le (a := 8 * n) (b := j) (zx_mul rfl rfl) rfl (by omega) (by omega)).mp c107_3
                          have hjj : j = 8 * n := by omega
                          rw [hjj] at hhe
                          refine lv_iconst (v := 0) hx hb dX9_digest_136 rfl ?_
                          refine lv_istore_n (lv' := [(3, .int 0), (0, .ref x), (1, .long hh)]) hx hb dX9_digest_137 rfl hl (by decide) rfl (fun ls hl => ?_)
                          have hls := hl.1
                          have hj138 : ∀ (zn j : Nat) (h_le : j ≤ 45) (h_fu : 45 < j + zn) (hh : Int64) (bc : Bool) (t1 : Nat → Int32) (hhe : hh = m_fold (fun j => m_ofM f n (j / 9) (j % 9)) (m_h4 f n k r) j) (H : Heap) (locs : List Loc), zW g A ([[(x, .inr (12, [.ref a0, .ref a1, .ref a2, .int (nI k), .ref a3, .ref a4, .ref a5, .int (nI ty), .int 0, .int (nI at_), .int (zb bF), .int val, .ref a6, .int (nI tl), .int (zb bc)]))], [(a0, .inl (g.2.1 0, 89, .inl f))], [(a1, .inl (g.2.1 0, 89, .inl t1))], [(a4, .inl (g.2.1 2, 2, .inl fi))], [(a5, .inl (g.2.1 0, 60, .inl tx))]] : List va_W) H → va_S A s.heap H locs → ∀ (ls : Array Slot), lv_has ls 4 [(0, .ref x), (1, .long hh), (3, .int (nI j))] → W zp l ze rm_X9_digest s zm ([.ref x] : List Value).toArray zbl zmt zc H locs 0 0 (MQ zbl (zQW g ([[(x, .inr (12, [.ref a0, .ref a1, .ref a2, .int (nI k), .ref a3, .ref a4, .ref a5, .int (nI ty), .int thr, .int (nI at_), .int (zb bF), .int val, .ref a6, .int (nI tl), .int (zb bC)]))], [(a0, .inl (g.2.1 0, 89, .inl f))], [(a1, .inl (g.2.1 0, 89, .inl t))], [(a4, .inl (g.2.1 2, 2, .inl fi))], [(a5, .inl (g.2.1 0, 60, .inl tx))]] : List va_W) (fun zv gs' => ∃ (bc : Bool) (t' : Nat → Int32), zv = some (.long (m_dig f fi tx n k r ty)) ∧ gs' = [[(x, .inr (12, [.ref a0, .ref a1, .ref a2, .int (nI k), .ref a3, .ref a4, .ref a5, .int (nI ty), .int 0, .int (nI at_), .int (zb bF), .int val, .ref a6, .int (nI tl), .int (zb bc)]))], [(a0, .inl (g.2.1 0, 89, .inl f))], [(a1, .inl (g.2.1 0, 89, .inl t'))], [(a4, .inl (g.2.1 2, 2, .inl fi))], [(a5, .inl (g.2.1 0, 60, .inl tx))]])) ([.ref x] : List Value).toArray s 0 0 A) (F0 zm 138 ls []) := by
                            intro zn
                            induction zn with
                            | zero => intro j h_le h_fu; exact absurd h_fu (by omega)
                            | succ zn ih138 =>
                              intro j h_le h_fu hh bc t1 hhe H locs hW hS ls hl
                              have hls := hl.1
                              refine lv_iload_n hx hb dX9_digest_138 rfl (lv_at hl 2 rfl) ?_
                              refine lv_bipush (v := 45) hx hb dX9_digest_139 (by decide) ?_
                              refine lv_icmp_ge (tgt := 170) hx hb dX9_digest_141 (by decide) (fun c141_4 => ?_) (fun c141_4 => ?_)
                              · skip
                                have kc141_4 := (zn_le (a := 45) (b := j) rfl rfl (by omega) (by omega)).mp c141_4
                                have hjj : j = 45 := by omega
                                rw [hjj] at hhe
                                refine lv_iconst (v := 0) hx hb dX9_digest_170 rfl ?_
                                refine lv_istore_n (lv' := [(3, .int 0), (0, .ref x), (1, .long hh)]) hx hb dX9_digest_171 rfl hl (by decide) rfl (fun ls hl => ?_)
                                have hls := hl.1
                                have hj172 : ∀ (zn j : Nat) (h_le : j ≤ 5) (h_fu : 5 < j + zn) (hh : Int64) (bc : Bool) (t1 : Nat → Int32) (hhe : hh = m_fold (fun w => m_by f n r 20 w) (m_h5 f n k r) j) (H : Heap) (locs : List Loc), zW g A ([[(x, .inr (12, [.ref a0, .ref a1, .ref a2, .int (nI k), .ref a3, .ref a4, .ref a5, .int (nI ty), .int 0, .int (nI at_), .int (zb bF), .int val, .ref a6, .int (nI tl), .int (zb bc)]))], [(a0, .inl (g.2.1 0, 89, .inl f))], [(a1, .inl (g.2.1 0, 89, .inl t1))], [(a4, .inl (g.2.1 2, 2, .inl fi))], [(a5, .inl (g.2.1 0, 60, .inl tx))]] : List va_W) H → va_S A s.heap H locs → ∀ (ls : Array Slot), lv_has ls 4 [(0, .ref x), (1, .long hh), (3, .int (nI j))] → W zp l ze rm_X9_digest s zm ([.ref x] : List Value).toArray zbl zmt zc H locs 0 0 (MQ zbl (zQW g ([[(x, .inr (12, [.ref a0, .ref a1, .ref a2, .int (nI k), .ref a3, .ref a4, .ref a5, .int (nI ty), .int thr, .int (nI at_), .int (zb bF), .int val, .ref a6, .int (nI tl), .int (zb bC)]))], [(a0, .inl (g.2.1 0, 89, .inl f))], [(a1, .inl (g.2.1 0, 89, .inl t))], [(a4, .inl (g.2.1 2, 2, .inl fi))], [(a5, .inl (g.2.1 0, 60, .inl tx))]] : List va_W) (fun zv gs' => ∃ (bc : Bool) (t' : Nat → Int32), zv = some (.long (m_dig f fi tx n k r ty)) ∧ gs' = [[(x, .inr (12, [.ref a0, .ref a1, .ref a2, .int (nI k), .ref a3, .ref a4, .ref a5, .int (nI ty), .int 0, .int (nI at_), .int (zb bF), .int val, .ref a6, .int (nI tl), .int (zb bc)]))], [(a0, .inl (g.2.1 0, 89, .inl f))], [(a1, .inl (g.2.1 0, 89, .inl t'))], [(a4, .inl (g.2.1 2, 2, .inl fi))], [(a5, .inl (g.2.1 0, 60, .inl tx))]])) ([.ref x] : List Value).toArray s 0 0 A) (F0 zm 172 ls []) := by
                                  intro zn
                                  induction zn with
                                  | zero => intro j h_le h_fu; exact absurd h_fu (by omega)
                                  | succ zn ih172 =>
                                    intro j h_le h_fu hh bc t1 hhe H locs hW hS ls hl
                                    have hls := hl.1
                                    refine lv_iload_n hx hb dX9_digest_172 rfl (lv_at hl 2 rfl) ?_
                                    refine lv_iconst (v := 5) hx hb dX9_digest_173 rfl ?_
                                    refine lv_icmp_ge (tgt := 204) hx hb dX9_digest_174 (by decide) (fun c174_5 => ?_) (fun c174_5 => ?_)
                                    · skip
                                      have kc174_5 := (zn_le (a := 5) (b := j) rfl rfl (by omega) (by omega)).mp c174_5
                                      have hjj : j = 5 := by omega
                                      rw [hjj] at hhe
                                      refine lv_ldc2 (v := 31) hx hb hown (X.w q1952) dX9_digest_204 ?_
                                      refine lv_ldc2 (v := 31) hx hb hown (X.w q1952) dX9_digest_207 ?_
                                      refine lv_ldc2 (v := 31) hx hb hown (X.w q1952) dX9_digest_210 ?_
                                      refine lv_lload_n hx hb dX9_digest_213 rfl (lv_at hl 1 rfl) ?_
                                      refine lv_lmul hx hb dX9_digest_214 ?_
                                      refine lv_aload_n hx hb dX9_digest_215 rfl (lv_at hl 0 rfl) ?_
                                      refine z_get X (hW.H.at 0 0 rfl rfl) zF_RX9_7_12 rfl dX9_digest_216 ?_
                                      refine zc_ro (zr_S (As := [.ref a0]) (rest := [.long (31 * hh), .long 31, .long 31]) X (m_X9_bestOf l g a0 f n (by omega) (by first | exact h6c | exact h6 | (simp (disch := omega) only [upd_n]; first | exact h6c | exact h6))) zL_RX9_85 (zH.cons (va_P.one (hW.H.at 1 0 rfl rfl)) zH.nil) hS hA0 hls rfl (Nat.le_of_ble_eq_true rfl) ⟨rfl, rfl, Nat.le_of_ble_eq_true rfl, Nat.le_of_ble_eq_true rfl, (Nat.le_of_ble_eq_true rfl), (Nat.le_of_ble_eq_true rfl)⟩ dX9_digest_219) ?_
                                      refine lv_i2l hx hb dX9_digest_222 rfl ?_
                                      refine lv_ladd hx hb dX9_digest_223 ?_
                                      refine lv_lmul hx hb dX9_digest_224 ?_
                                      refine lv_aload_n hx hb dX9_digest_225 rfl (lv_at hl 0 rfl) ?_
                                      refine zc_wr (gc := [[(x, .inr (12, [.ref a0, .ref a1, .ref a2, .int (nI k), .ref a3, .ref a4, .ref a5, .int (nI ty), .int 0, .int (nI at_), .int (zb bF), .int val, .ref a6, .int (nI tl), .int (zb bc)]))], [(a0, .inl (g.2.1 0, 89, .inl f))], [(a1, .inl (g.2.1 0, 89, .inl t1))]]) (gr := [[(a4, .inl (g.2.1 2, 2, .inl fi))], [(a5, .inl (g.2.1 0, 60, .inl tx))]]) (zr_V (As := []) (rest := [.long (31 * ((31 * hh) + ((m_best f n).toInt64))), .long 31]) X (m_X9_clears l g x a0 a1 a2 a3 a4 a5 a6 k ty at_ tl 0 val bF bc f t1 n r (by omega) (by first | exact h6c | exact h6 | (simp (disch := omega) only [upd_n]; first | exact h6c | exact h6)) (by omega) (by first | exact h5c | exact h5) hla _) zL_RX9_223 (ci := 12) rfl (hW.H.at 0 0 rfl rfl) (zW.pre (gc := [[(x, .inr (12, [.ref a0, .ref a1, .ref a2, .int (nI k), .ref a3, .ref a4, .ref a5, .int (nI ty), .int 0, .int (nI at_), .int (zb bF), .int val, .ref a6, .int (nI tl), .int (zb bc)]))], [(a0, .inl (g.2.1 0, 89, .inl f))], [(a1, .inl (g.2.1 0, 89, .inl t1))]]) (gr := [[(a4, .inl (g.2.1 2, 2, .inl fi))], [(a5, .inl (g.2.1 0, 60, .inl tx))]]) hW hA0) hS hA0 hls rfl (Nat.le_of_ble_eq_true rfl) ⟨rfl, rfl, Nat.le_of_ble_eq_true rfl, Nat.le_of_ble_eq_true rfl, (Nat.le_of_ble_eq_true rfl), (Nat.le_of_ble_eq_true rfl)⟩ dX9_digest_226) hW hS hA (fun v gc' H locs hpost hW hS => ?_)
                                      obtain ⟨bc7, t8, rfl, rfl⟩ := hpost
                                      have hW : zW g A ([[(x, .inr (12, [.ref a0, .ref a1, .ref a2, .int (nI k), .ref a3, .ref a4, .ref a5, .int (nI ty), .int 0, .int (nI at_), .int (zb bF), .int val, .ref a6, .int (nI tl), .int (zb bc7)]))], [(a0, .inl (g.2.1 0, 89, .inl f))], [(a1, .inl (g.2.1 0, 89, .inl t8))], [(a4, .inl (g.2.1 2, 2, .inl fi))], [(a5, .inl (g.2.1 0, 60, .inl tx))]] : List va_W) H := hW
                                      refine W.eq (g2 := F0 zm 229 ls [.int (m_clears f n r), .long (31 * ((31 * hh) + ((m_best f n).toInt64))), .long 31]) rfl ?_
                                      refine lv_i2l hx hb dX9_digest_229 rfl ?_
                                      refine lv_ladd hx hb dX9_digest_230 ?_
                                      refine lv_lmul hx hb dX9_digest_231 ?_
                                      refine lv_aload_n hx hb dX9_digest_232 rfl (lv_at hl 0 rfl) ?_
                                      refine lv_bipush (v := 15) hx hb dX9_digest_233 (by decide) ?_
                                      refine zc_wr (gc := [[(x, .inr (12, [.ref a0, .ref a1, .ref a2, .int (nI k), .ref a3, .ref a4, .ref a5, .int (nI ty), .int 0, .int (nI at_), .int (zb bF), .int val, .ref a6, .int (nI tl), .int (zb bc7)]))], [(a0, .inl (g.2.1 0, 89, .inl f))], [(a1, .inl (g.2.1 0, 89, .inl t8))]]) (gr := [[(a4, .inl (g.2.1 2, 2, .inl fi))], [(a5, .inl (g.2.1 0, 60, .inl tx))]]) (zr_V (As := [.int 15]) (rest := [.long (31 * ((31 * ((31 * hh) + ((m_best f n).toInt64))) + ((m_clears f n r).toInt64)))]) X (m_X9_most l g x a0 a1 a2 a3 a4 a5 a6 k ty at_ tl 0 val bF bc7 f t8 15 n (by omega) (by omega) (by first | exact h6c | exact h6 | (simp (disch := omega) only [upd_n]; first | exact h6c | exact h6)) hla _) zL_RX9_227 (ci := 12) rfl (hW.H.at 0 0 rfl rfl) (zW.pre (gc := [[(x, .inr (12, [.ref a0, .ref a1, .ref a2, .int (nI k), .ref a3, .ref a4, .ref a5, .int (nI ty), .int 0, .int (nI at_), .int (zb bF), .int val, .ref a6, .int (nI tl), .int (zb bc7)]))], [(a0, .inl (g.2.1 0, 89, .inl f))], [(a1, .inl (g.2.1 0, 89, .inl t8))]]) (gr := [[(a4, .inl (g.2.1 2, 2, .inl fi))], [(a5, .inl (g.2.1 0, 60, .inl tx))]]) hW hA0) hS hA0 hls rfl (Nat.le_of_ble_eq_true rfl) ⟨rfl, rfl, Nat.le_of_ble_eq_true rfl, Nat.le_of_ble_eq_true rfl, (Nat.le_of_ble_eq_true rfl), (Nat.le_of_ble_eq_true rfl)⟩ dX9_digest_235) hW hS hA (fun v gc' H locs hpost hW hS => ?_)
                                      obtain ⟨bc9, t10, rfl, rfl⟩ := hpost
                                      have hW : zW g A ([[(x, .inr (12, [.ref a0, .ref a1, .ref a2, .int (nI k), .ref a3, .ref a4, .ref a5, .int (nI ty), .int 0, .int (nI at_), .int (zb bF), .int val, .ref a6, .int (nI tl), .int (zb bc9)]))], [(a0, .inl (g.2.1 0, 89, .inl f))], [(a1, .inl (g.2.1 0, 89, .inl t10))], [(a4, .inl (g.2.1 2, 2, .inl fi))], [(a5, .inl (g.2.1 0, 60, .inl tx))]] : List va_W) H := hW
                                      refine W.eq (g2 := F0 zm 238 ls [.int (m_most f n 15), .long (31 * ((31 * ((31 * hh) + ((m_best f n).toInt64))) + ((m_clears f n r).toInt64)))]) rfl ?_
                                      refine lv_i2l hx hb dX9_digest_238 rfl ?_
                                      refine lv_ladd hx hb dX9_digest_239 ?_
                                      refine lv_lstore_n (lv' := [(1, .long ((31 * ((31 * ((31 * hh) + ((m_best f n).toInt64))) + ((m_clears f n r).toInt64))) + ((m_most f n 15).toInt64))), (0, .ref x), (3, .int (nI j))]) hx hb dX9_digest_240 rfl hl (by decide) rfl (fun ls hl => ?_)
                                      have hls := hl.1
                                      refine lv_ldc2 (v := 31) hx hb hown (X.w q1952) dX9_digest_241 ?_
                                      refine lv_lload_n hx hb dX9_digest_244 rfl (lv_at hl 0 rfl) ?_
                                      refine lv_lmul hx hb dX9_digest_245 ?_
                                      refine lv_aload_n hx hb dX9_digest_246 rfl (lv_at hl 1 rfl) ?_
                                      refine zc_ro (zr_V (As := []) (rest := [.long (31 * ((31 * ((31 * ((31 * hh) + ((m_best f n).toInt64))) + ((m_clears f n r).toInt64))) + ((m_most f n 15).toInt64)))]) X (m_X9_share l g x a0 a1 a2 a3 a4 a5 a6 k ty at_ tl 0 val bF bc9 f) zL_RX9_230 (ci := 12) rfl (hW.H.at 0 0 rfl rfl) (zH.cons (va_P.one (hW.H.at 0 0 rfl rfl)) (zH.cons (va_P.one (hW.H.at 1 0 rfl rfl)) zH.nil)) hS hA0 hls rfl (Nat.le_of_ble_eq_true rfl) ⟨rfl, rfl, Nat.le_of_ble_eq_true rfl, Nat.le_of_ble_eq_true rfl, (Nat.le_of_ble_eq_true rfl), (Nat.le_of_ble_eq_true rfl)⟩ dX9_digest_247) ?_
                                      refine zc_ro (zr_S (As := [.double (m_share f)]) (rest := [.long (31 * ((31 * ((31 * ((31 * hh) + ((m_best f n).toInt64))) + ((m_clears f n r).toInt64))) + ((m_most f n 15).toInt64)))]) X (m_J23_doubleToLongBits l g (m_share f) (m_share_ok _)) zL_RX9_238 trivial hS hA0 hls rfl (Nat.le_of_ble_eq_true rfl) ⟨rfl, rfl, Nat.le_of_ble_eq_true rfl, Nat.le_of_ble_eq_true rfl, (Nat.le_of_ble_eq_true rfl), (Nat.le_of_ble_eq_true rfl)⟩ dX9_digest_250) ?_
                                      refine lv_ladd hx hb dX9_digest_253 ?_
                                      refine lv_lstore_n (lv' := [(1, .long ((31 * ((31 * ((31 * ((31 * hh) + ((m_best f n).toInt64))) + ((m_clears f n r).toInt64))) + ((m_most f n 15).toInt64))) + ((m_share f).toInt64))), (0, .ref x), (3, .int (nI j))]) hx hb dX9_digest_254 rfl hl (by decide) rfl (fun ls hl => ?_)
                                      have hls := hl.1
                                      refine lv_iconst (v := 0) hx hb dX9_digest_255 rfl ?_
                                      refine lv_istore_n (lv' := [(3, .int 0), (1, .long ((31 * ((31 * ((31 * ((31 * hh) + ((m_best f n).toInt64))) + ((m_clears f n r).toInt64))) + ((m_most f n 15).toInt64))) + ((m_share f).toInt64))), (0, .ref x)]) hx hb dX9_digest_256 rfl hl (by decide) rfl (fun ls hl => ?_)
                                      have hls := hl.1
                                      have hj257 : ∀ (zn j : Nat) (h_le : j ≤ 2) (h_fu : 2 < j + zn) (hh : Int64) (bc : Bool) (t1 : Nat → Int32) (hhe : hh = m_fold (fun j => if fi j = 0 then 0 else 1) (m_h8 f n k r) j) (H : Heap) (locs : List Loc), zW g A ([[(x, .inr (12, [.ref a0, .ref a1, .ref a2, .int (nI k), .ref a3, .ref a4, .ref a5, .int (nI ty), .int 0, .int (nI at_), .int (zb bF), .int val, .ref a6, .int (nI tl), .int (zb bc)]))], [(a0, .inl (g.2.1 0, 89, .inl f))], [(a1, .inl (g.2.1 0, 89, .inl t1))], [(a4, .inl (g.2.1 2, 2, .inl fi))], [(a5, .inl (g.2.1 0, 60, .inl tx))]] : List va_W) H → va_S A s.heap H locs → ∀ (ls : Array Slot), lv_has ls 4 [(0, .ref x), (1, .long hh), (3, .int (nI j))] → W zp l ze rm_X9_digest s zm ([.ref x] : List Value).toArray zbl zmt zc H locs 0 0 (MQ zbl (zQW g ([[(x, .inr (12, [.ref a0, .ref a1, .ref a2, .int (nI k), .ref a3, .ref a4, .ref a5, .int (nI ty), .int thr, .int (nI at_), .int (zb bF), .int val, .ref a6, .int (nI tl), .int (zb bC)]))], [(a0, .inl (g.2.1 0, 89, .inl f))], [(a1, .inl (g.2.1 0, 89, .inl t))], [(a4, .inl (g.2.1 2, 2, .inl fi))], [(a5, .inl (g.2.1 0, 60, .inl tx))]] : List va_W) (fun zv gs' => ∃ (bc : Bool) (t' : Nat → Int32), zv = some (.long (m_dig f fi tx n k r ty)) ∧ gs' = [[(x, .inr (12, [.ref a0, .ref a1, .ref a2, .int (nI k), .ref a3, .ref a4, .ref a5, .int (nI ty), .int 0, .int (nI at_), .int (zb bF), .int val, .ref a6, .int (nI tl), .int (zb bc)]))], [(a0, .inl (g.2.1 0, 89, .inl f))], [(a1, .inl (g.2.1 0, 89, .inl t'))], [(a4, .inl (g.2.1 2, 2, .inl fi))], [(a5, .inl (g.2.1 0, 60, .inl tx))]])) ([.ref x] : List Value).toArray s 0 0 A) (F0 zm 257 ls []) := by
                                        intro zn
                                        induction zn with
                                        | zero => intro j h_le h_fu; exact absurd h_fu (by omega)
                                        | succ zn ih257 =>
                                          intro j h_le h_fu hh bc t1 hhe H locs hW hS ls hl
                                          have hls := hl.1
                                          refine lv_iload_n hx hb dX9_digest_257 rfl (lv_at hl 2 rfl) ?_
                                          refine lv_iconst (v := 2) hx hb dX9_digest_258 rfl ?_
                                          refine lv_icmp_ge (tgt := 290) hx hb dX9_digest_259 (by decide) (fun c259_10 => ?_) (fun c259_10 => ?_)
                                          · skip
                                            have kc259_10 := (zn_le (a := 2) (b := j) rfl rfl (by omega) (by omega)).mp c259_10
                                            have hjj : j = 2 := by omega
                                            rw [hjj] at hhe
                                            refine lv_ldc2 (v := 31) hx hb hown (X.w q1952) dX9_digest_290 ?_
                                            refine lv_lload_n hx hb dX9_digest_293 rfl (lv_at hl 1 rfl) ?_
                                            refine lv_lmul hx hb dX9_digest_294 ?_
                                            refine lv_aload_n hx hb dX9_digest_295 rfl (lv_at hl 0 rfl) ?_
                                            refine z_get X (hW.H.at 0 0 rfl rfl) zF_RX9_151_12 rfl dX9_digest_296 ?_
                                            refine lv_i2l hx hb dX9_digest_299 rfl ?_
                                            refine lv_ladd hx hb dX9_digest_300 ?_
                                            refine lv_lstore_n (lv' := [(1, .long ((31 * hh) + ((nI ty).toInt64))), (0, .ref x), (3, .int (nI j))]) hx hb dX9_digest_301 rfl hl (by decide) rfl (fun ls hl => ?_)
                                            have hls := hl.1
                                            refine lv_iconst (v := 0) hx hb dX9_digest_302 rfl ?_
                                            refine lv_istore_n (lv' := [(3, .int 0), (1, .long ((31 * hh) + ((nI ty).toInt64))), (0, .ref x)]) hx hb dX9_digest_303 rfl hl (by decide) rfl (fun ls hl => ?_)
                                            have hls := hl.1
                                            have hj304 : ∀ (zn j : Nat) (h_le : j ≤ ty) (h_fu : ty < j + zn) (hh : Int64) (bc : Bool) (t1 : Nat → Int32) (hhe : hh = m_fold tx (m_h10 f fi n k r ty) j) (H : Heap) (locs : List Loc), zW g A ([[(x, .inr (12, [.ref a0, .ref a1, .ref a2, .int (nI k), .ref a3, .ref a4, .ref a5, .int (nI ty), .int 0, .int (nI at_), .int (zb bF), .int val, .ref a6, .int (nI tl), .int (zb bc)]))], [(a0, .inl (g.2.1 0, 89, .inl f))], [(a1, .inl (g.2.1 0, 89, .inl t1))], [(a4, .inl (g.2.1 2, 2, .inl fi))], [(a5, .inl (g.2.1 0, 60, .inl tx))]] : List va_W) H → va_S A s.heap H locs → ∀ (ls : Array Slot), lv_has ls 4 [(0, .ref x), (1, .long hh), (3, .int (nI j))] → W zp l ze rm_X9_digest s zm ([.ref x] : List Value).toArray zbl zmt zc H locs 0 0 (MQ zbl (zQW g ([[(x, .inr (12, [.ref a0, .ref a1, .ref a2, .int (nI k), .ref a3, .ref a4, .ref a5, .int (nI ty), .int thr, .int (nI at_), .int (zb bF), .int val, .ref a6, .int (nI tl), .int (zb bC)]))], [(a0, .inl (g.2.1 0, 89, .inl f))], [(a1, .inl (g.2.1 0, 89, .inl t))], [(a4, .inl (g.2.1 2, 2, .inl fi))], [(a5, .inl (g.2.1 0, 60, .inl tx))]] : List va_W) (fun zv gs' => ∃ (bc : Bool) (t' : Nat → Int32), zv = some (.long (m_dig f fi tx n k r ty)) ∧ gs' = [[(x, .inr (12, [.ref a0, .ref a1, .ref a2, .int (nI k), .ref a3, .ref a4, .ref a5, .int (nI ty), .int 0, .int (nI at_), .int (zb bF), .int val, .ref a6, .int (nI tl), .int (zb bc)]))], [(a0, .inl (g.2.1 0, 89, .inl f))], [(a1, .inl (g.2.1 0, 89, .inl t'))], [(a4, .inl (g.2.1 2, 2, .inl fi))], [(a5, .inl (g.2.1 0, 60, .inl tx))]])) ([.ref x] : List Value).toArray s 0 0 A) (F0 zm 304 ls []) := by
                                              intro zn
                                              induction zn with
                                              | zero => intro j h_le h_fu; exact absurd h_fu (by omega)
                                              | succ zn ih304 =>
                                                intro j h_le h_fu hh bc t1 hhe H locs hW hS ls hl
                                                have hls := hl.1
                                                refine lv_iload_n hx hb dX9_digest_304 rfl (lv_at hl 2 rfl) ?_
                                                refine lv_aload_n hx hb dX9_digest_305 rfl (lv_at hl 0 rfl) ?_
                                                refine z_get X (hW.H.at 0 0 rfl rfl) zF_RX9_151_12 rfl dX9_digest_306 ?_
                                                refine lv_icmp_ge (tgt := 332) hx hb dX9_digest_309 (by decide) (fun c309_11 => ?_) (fun c309_11 => ?_)
                                                · skip
                                                  have kc309_11 := (zn_le (a := ty) (b := j) rfl rfl (by omega) (by omega)).mp c309_11
                                                  have hjj : j = ty := by omega
                                                  rw [hjj] at hhe
                                                  refine lv_lload_n hx hb dX9_digest_332 rfl (lv_at hl 1 rfl) ?_
                                                  refine zWR.lret X hAe hW hS hr hlocks ?_ (Nat.le_of_ble_eq_true rfl) (Nat.le_of_ble_eq_true rfl) dX9_digest_333
                                                  refine ⟨_, _, ?_, rfl⟩
                                                  rw [hhe]
                                                  rfl
                                                · skip
                                                  have kc309_11 := mt (zn_le (a := ty) (b := j) rfl rfl (by omega) (by omega)).mpr c309_11
                                                  refine lv_ldc2 (v := 31) hx hb hown (X.w q1952) dX9_digest_312 ?_
                                                  refine lv_lload_n hx hb dX9_digest_315 rfl (lv_at hl 1 rfl) ?_
                                                  refine lv_lmul hx hb dX9_digest_316 ?_
                                                  refine lv_aload_n hx hb dX9_digest_317 rfl (lv_at hl 0 rfl) ?_
                                                  refine z_get X (hW.H.at 0 0 rfl rfl) zF_RX9_26_12 rfl dX9_digest_318 ?_
                                                  refine lv_iload_n hx hb dX9_digest_321 rfl (lv_at hl 2 rfl) ?_
                                                  refine z_iald X (j := j) (hW.H.at 4 0 rfl rfl) rfl (by omega) (by decide) dX9_digest_322 ?_
                                                  refine lv_i2l hx hb dX9_digest_323 rfl ?_
                                                  refine lv_ladd hx hb dX9_digest_324 ?_
                                                  refine lv_lstore_n (lv' := [(1, .long ((31 * hh) + ((tx j).toInt64))), (0, .ref x), (3, .int (nI j))]) hx hb dX9_digest_325 rfl hl (by decide) rfl (fun ls hl => ?_)
                                                  have hls := hl.1
                                                  refine lv_iinc (v := nI (j + 1)) (lv' := [(3, .int (nI (j + 1))), (1, .long ((31 * hh) + ((tx j).toInt64))), (0, .ref x)]) hx hb dX9_digest_326 hl (k := 2) rfl (zx_add rfl rfl) (by decide) rfl (fun ls hl => ?_)
                                                  have hls := hl.1
                                                  refine lv_goto (tgt := 304) hx hb dX9_digest_329 (by decide) ?_
                                                  exact ih304 (j + 1) (by omega) (by omega) _ _ _ (by rw [hhe]; rfl) _ _ hW hS _ (lv_sub hl [2, 1, 0] rfl)
                                            exact hj304 (ty + 1) (0) (by omega) (by omega) _ _ _ (by rw [hhe]; rfl) _ _ hW hS _ (lv_sub hl [2, 1, 0] rfl)
                                          · skip
                                            have kc259_10 := mt (zn_le (a := 2) (b := j) rfl rfl (by omega) (by omega)).mpr c259_10
                                            refine lv_ldc2 (v := 31) hx hb hown (X.w q1952) dX9_digest_262 ?_
                                            refine lv_lload_n hx hb dX9_digest_265 rfl (lv_at hl 1 rfl) ?_
                                            refine lv_lmul hx hb dX9_digest_266 ?_
                                            refine lv_aload_n hx hb dX9_digest_267 rfl (lv_at hl 0 rfl) ?_
                                            refine z_get X (hW.H.at 0 0 rfl rfl) zF_RX9_22_12 rfl dX9_digest_268 ?_
                                            refine lv_iload_n hx hb dX9_digest_271 rfl (lv_at hl 2 rfl) ?_
                                            refine z_zald X (j := j) (hW.H.at 3 0 rfl rfl) rfl (by omega) (by decide) dX9_digest_272 ?_
                                            refine lv_if_eq (tgt := 280) hx hb dX9_digest_273 (by decide) (fun c273_12 => ?_) (fun c273_12 => ?_)
                                            · skip
                                              refine lv_iconst (v := 0) hx hb dX9_digest_280 rfl ?_
                                              refine lv_i2l hx hb dX9_digest_281 rfl ?_
                                              refine lv_ladd hx hb dX9_digest_282 ?_
                                              refine lv_lstore_n (lv' := [(1, .long ((31 * hh) + 0.toInt64)), (0, .ref x), (3, .int (nI j))]) hx hb dX9_digest_283 rfl hl (by decide) rfl (fun ls hl => ?_)
                                              have hls := hl.1
                                              refine lv_iinc (v := nI (j + 1)) (lv' := [(3, .int (nI (j + 1))), (1, .long ((31 * hh) + 0.toInt64)), (0, .ref x)]) hx hb dX9_digest_284 hl (k := 2) rfl (zx_add rfl rfl) (by decide) rfl (fun ls hl => ?_)
                                              have hls := hl.1
                                              refine lv_goto (tgt := 257) hx hb dX9_digest_287 (by decide) ?_
                                              exact ih257 (j + 1) (by omega) (by omega) _ _ _ (by rw [hhe, m_fold]; simp only [if_neg c259_10, if_pos c273_12]) _ _ hW hS _ (lv_sub hl [2, 1, 0] rfl)
                                            · skip
                                              refine lv_iconst (v := 1) hx hb dX9_digest_276 rfl ?_
                                              refine lv_goto (tgt := 281) hx hb dX9_digest_277 (by decide) ?_
                                              refine lv_i2l hx hb dX9_digest_281 rfl ?_
                                              refine lv_ladd hx hb dX9_digest_282 ?_
                                              refine lv_lstore_n (lv' := [(1, .long ((31 * hh) + 1.toInt64)), (0, .ref x), (3, .int (nI j))]) hx hb dX9_digest_283 rfl hl (by decide) rfl (fun ls hl => ?_)
                                              have hls := hl.1
                                              refine lv_iinc (v := nI (j + 1)) (lv' := [(3, .int (nI (j + 1))), (1, .long ((31 * hh) + 1.toInt64)), (0, .ref x)]) hx hb dX9_digest_284 hl (k := 2) rfl (zx_add rfl rfl) (by decide) rfl (fun ls hl => ?_)
                                              have hls := hl.1
                                              refine lv_goto (tgt := 257) hx hb dX9_digest_287 (by decide) ?_
                                              exact ih257 (j + 1) (by omega) (by omega) _ _ _ (by rw [hhe, m_fold]; simp only [if_neg c259_10, if_neg c273_12]) _ _ hW hS _ (lv_sub hl [2, 1, 0] rfl)
                                      exact hj257 (2 + 1) (0) (by omega) (by omega) _ _ _ (by rw [hhe]; rfl) _ _ hW hS _ (lv_sub hl [2, 1, 0] rfl)
                                    · skip
                                      have kc174_5 := mt (zn_le (a := 5) (b := j) rfl rfl (by omega) (by omega)).mpr c174_5
                                      refine lv_ldc2 (v := 31) hx hb hown (X.w q1952) dX9_digest_177 ?_
                                      refine lv_lload_n hx hb dX9_digest_180 rfl (lv_at hl 1 rfl) ?_
                                      refine lv_lmul hx hb dX9_digest_181 ?_
                                      refine lv_aload_n hx hb dX9_digest_182 rfl (lv_at hl 0 rfl) ?_
                                      refine lv_aload_n hx hb dX9_digest_183 rfl (lv_at hl 0 rfl) ?_
                                      refine z_get X (hW.H.at 0 0 rfl rfl) zF_RX9_7_12 rfl dX9_digest_184 ?_
                                      refine lv_iconst (v := 5) hx hb dX9_digest_187 rfl ?_
                                      refine z_iald X (j := 5) (hW.H.at 1 0 rfl rfl) rfl (by omega) (by decide) dX9_digest_188 ?_
                                      refine z_stk (b := [.int (nI r), .ref x, .long (31 * hh)]) (by rw [show (f 5) = nI r from h5]) ?_
                                      refine lv_bipush (v := 20) hx hb dX9_digest_189 (by decide) ?_
                                      refine lv_iload_n hx hb dX9_digest_191 rfl (lv_at hl 2 rfl) ?_
                                      refine zc_wr (gc := [[(x, .inr (12, [.ref a0, .ref a1, .ref a2, .int (nI k), .ref a3, .ref a4, .ref a5, .int (nI ty), .int 0, .int (nI at_), .int (zb bF), .int val, .ref a6, .int (nI tl), .int (zb bc)]))], [(a0, .inl (g.2.1 0, 89, .inl f))], [(a1, .inl (g.2.1 0, 89, .inl t1))]]) (gr := [[(a4, .inl (g.2.1 2, 2, .inl fi))], [(a5, .inl (g.2.1 0, 60, .inl tx))]]) (zr_V (As := [.int (nI r), .int 20, .int (nI j)]) (rest := [.long (31 * hh)]) X (m_X9_byPassing l g x a0 a1 a2 a3 a4 a5 a6 k ty at_ tl 0 val bF bc f t1 r 20 j n (by omega) (by omega) (by omega) (by omega) (by first | exact h6c | exact h6 | (simp (disch := omega) only [upd_n]; first | exact h6c | exact h6)) hla _) zL_RX9_219 (ci := 12) rfl (hW.H.at 0 0 rfl rfl) (zW.pre (gc := [[(x, .inr (12, [.ref a0, .ref a1, .ref a2, .int (nI k), .ref a3, .ref a4, .ref a5, .int (nI ty), .int 0, .int (nI at_), .int (zb bF), .int val, .ref a6, .int (nI tl), .int (zb bc)]))], [(a0, .inl (g.2.1 0, 89, .inl f))], [(a1, .inl (g.2.1 0, 89, .inl t1))]]) (gr := [[(a4, .inl (g.2.1 2, 2, .inl fi))], [(a5, .inl (g.2.1 0, 60, .inl tx))]]) hW hA0) hS hA0 hls rfl (Nat.le_of_ble_eq_true rfl) ⟨rfl, rfl, Nat.le_of_ble_eq_true rfl, Nat.le_of_ble_eq_true rfl, (Nat.le_of_ble_eq_true rfl), (Nat.le_of_ble_eq_true rfl)⟩ dX9_digest_192) hW hS hA (fun v gc' H locs hpost hW hS => ?_)
                                      obtain ⟨bc14, t15, rfl, rfl⟩ := hpost
                                      have hW : zW g A ([[(x, .inr (12, [.ref a0, .ref a1, .ref a2, .int (nI k), .ref a3, .ref a4, .ref a5, .int (nI ty), .int 0, .int (nI at_), .int (zb bF), .int val, .ref a6, .int (nI tl), .int (zb bc14)]))], [(a0, .inl (g.2.1 0, 89, .inl f))], [(a1, .inl (g.2.1 0, 89, .inl t15))], [(a4, .inl (g.2.1 2, 2, .inl fi))], [(a5, .inl (g.2.1 0, 60, .inl tx))]] : List va_W) H := hW
                                      refine W.eq (g2 := F0 zm 195 ls [.int (m_by f n r 20 j), .long (31 * hh)]) rfl ?_
                                      refine lv_i2l hx hb dX9_digest_195 rfl ?_
                                      refine lv_ladd hx hb dX9_digest_196 ?_
                                      refine lv_lstore_n (lv' := [(1, .long ((31 * hh) + ((m_by f n r 20 j).toInt64))), (0, .ref x), (3, .int (nI j))]) hx hb dX9_digest_197 rfl hl (by decide) rfl (fun ls hl => ?_)
                                      have hls := hl.1
                                      refine lv_iinc (v := nI (j + 1)) (lv' := [(3, .int (nI (j + 1))), (1, .long ((31 * hh) + ((m_by f n r 20 j).toInt64))), (0, .ref x)]) hx hb dX9_digest_198 hl (k := 2) rfl (zx_add rfl rfl) (by decide) rfl (fun ls hl => ?_)
                                      have hls := hl.1
                                      refine lv_goto (tgt := 172) hx hb dX9_digest_201 (by decide) ?_
                                      exact ih172 (j + 1) (by omega) (by omega) _ _ _ (by rw [hhe]; rfl) _ _ hW hS _ (lv_sub hl [2, 1, 0] rfl)
                                exact hj172 (5 + 1) (0) (by omega) (by omega) _ _ _ (by rw [hhe]; rfl) _ _ hW hS _ (lv_sub hl [1, 2, 0] rfl)
                              · skip
                                have kc141_4 := mt (zn_le (a := 45) (b := j) rfl rfl (by omega) (by omega)).mpr c141_4
                                refine lv_ldc2 (v := 31) hx hb hown (X.w q1952) dX9_digest_144 ?_
                                refine lv_lload_n hx hb dX9_digest_147 rfl (lv_at hl 1 rfl) ?_
                                refine lv_lmul hx hb dX9_digest_148 ?_
                                refine lv_aload_n hx hb dX9_digest_149 rfl (lv_at hl 0 rfl) ?_
                                refine lv_iload_n hx hb dX9_digest_150 rfl (lv_at hl 2 rfl) ?_
                                refine lv_bipush (v := 9) hx hb dX9_digest_151 (by decide) ?_
                                refine lv_idiv hx hb dX9_digest_153 (by decide) ?_
                                refine z_stk (b := [.int (nI (j / 9)), .ref x, .long (31 * hh)]) (by rw [show ((nI j) / 9) = nI (j / 9) from pk_div (a := j) (d := 9) (by omega) (by decide) (by decide)]) ?_
                                refine lv_iload_n hx hb dX9_digest_154 rfl (lv_at hl 2 rfl) ?_
                                refine lv_bipush (v := 9) hx hb dX9_digest_155 (by decide) ?_
                                refine lv_irem hx hb dX9_digest_157 (by decide) ?_
                                refine z_stk (b := [.int (nI (j % 9)), .int (nI (j / 9)), .ref x, .long (31 * hh)]) (by rw [show ((nI j) - (nI j) / 9 * 9) = nI (j % 9) from pk_rem (a := j) (d := 9) (by omega) (by decide) (by decide)]) ?_
                                refine zc_ro (zr_V (As := [.int (nI (j / 9)), .int (nI (j % 9))]) (rest := [.long (31 * hh)]) X (m_X9_ofMeadow l g x a0 a1 a2 a3 a4 a5 a6 k ty at_ tl 0 val bF bc f (j / 9) (j % 9) n (by omega) (by omega) (by omega) (by first | exact h6c | exact h6 | (simp (disch := omega) only [upd_n]; first | exact h6c | exact h6))) zL_RX9_200 (ci := 12) rfl (hW.H.at 0 0 rfl rfl) (zH.cons (va_P.one (hW.H.at 0 0 rfl rfl)) (zH.cons (va_P.one (hW.H.at 1 0 rfl rfl)) zH.nil)) hS hA0 hls rfl (Nat.le_of_ble_eq_true rfl) ⟨rfl, rfl, Nat.le_of_ble_eq_true rfl, Nat.le_of_ble_eq_true rfl, (Nat.le_of_ble_eq_true rfl), (Nat.le_of_ble_eq_true rfl)⟩ dX9_digest_158) ?_
                                refine lv_i2l hx hb dX9_digest_161 rfl ?_
                                refine lv_ladd hx hb dX9_digest_162 ?_
                                refine lv_lstore_n (lv' := [(1, .long ((31 * hh) + ((m_ofM f n (j / 9) (j % 9)).toInt64))), (0, .ref x), (3, .int (nI j))]) hx hb dX9_digest_163 rfl hl (by decide) rfl (fun ls hl => ?_)
                                have hls := hl.1
                                refine lv_iinc (v := nI (j + 1)) (lv' := [(3, .int (nI (j + 1))), (1, .long ((31 * hh) + ((m_ofM f n (j / 9) (j % 9)).toInt64))), (0, .ref x)]) hx hb dX9_digest_164 hl (k := 2) rfl (zx_add rfl rfl) (by decide) rfl (fun ls hl => ?_)
                                have hls := hl.1
                                refine lv_goto (tgt := 138) hx hb dX9_digest_167 (by decide) ?_
                                exact ih138 (j + 1) (by omega) (by omega) _ _ _ (by rw [hhe]; rfl) _ _ hW hS _ (lv_sub hl [2, 1, 0] rfl)
                          exact hj138 (45 + 1) (0) (by omega) (by omega) _ _ _ (by rw [hhe]; rfl) _ _ hW hS _ (lv_sub hl [1, 2, 0] rfl)
                        · skip
                          have kc107_3 := mt (zn_le (a := 8 * n) (b := j) (zx_mul rfl rfl) rfl (by omega) (by omega)).mpr c107_3
                          refine lv_ldc2 (v := 31) hx hb hown (X.w q1952) dX9_digest_110 ?_
                          refine lv_lload_n hx hb dX9_digest_113 rfl (lv_at hl 1 rfl) ?_
                          refine lv_lmul hx hb dX9_digest_114 ?_
                          refine lv_aload_n hx hb dX9_digest_115 rfl (lv_at hl 0 rfl) ?_
                          refine lv_iload_n hx hb dX9_digest_116 rfl (lv_at hl 2 rfl) ?_
                          refine lv_bipush (v := 8) hx hb dX9_digest_117 (by decide) ?_
                          refine lv_idiv hx hb dX9_digest_119 (by decide) ?_
                          refine z_stk (b := [.int (nI (j / 8)), .ref x, .long (31 * hh)]) (by rw [show ((nI j) / 8) = nI (j / 8) from pk_div (a := j) (d := 8) (by omega) (by decide) (by decide)]) ?_
                          refine lv_iload_n hx hb dX9_digest_120 rfl (lv_at hl 2 rfl) ?_
                          refine lv_bipush (v := 8) hx hb dX9_digest_121 (by decide) ?_
                          refine lv_irem hx hb dX9_digest_123 (by decide) ?_
                          refine z_stk (b := [.int (nI (j % 8)), .int (nI (j / 8)), .ref x, .long (31 * hh)]) (by rw [show ((nI j) - (nI j) / 8 * 8) = nI (j % 8) from pk_rem (a := j) (d := 8) (by omega) (by decide) (by decide)]) ?_
                          refine zc_ro (zr_V (As := [.int (nI (j / 8)), .int (nI (j % 8))]) (rest := [.long (31 * hh)]) X (m_X9_ofBarge l g x a0 a1 a2 a3 a4 a5 a6 k ty at_ tl 0 val bF bc f (j / 8) (j % 8) n r (by omega) (by first | exact h6c | exact h6 | (simp (disch := omega) only [upd_n]; first | exact h6c | exact h6)) (by omega) (by first | exact h5c | exact h5) (by omega) (by omega) (by first | exact hgo | exact hgo4 _ (by omega))) zL_RX9_197 (ci := 12) rfl (hW.H.at 0 0 rfl rfl) (zH.cons (va_P.one (hW.H.at 0 0 rfl rfl)) (zH.cons (va_P.one (hW.H.at 1 0 rfl rfl)) zH.nil)) hS hA0 hls rfl (Nat.le_of_ble_eq_true rfl) ⟨rfl, rfl, Nat.le_of_ble_eq_true rfl, Nat.le_of_ble_eq_true rfl, (Nat.le_of_ble_eq_true rfl), (Nat.le_of_ble_eq_true rfl)⟩ dX9_digest_124) ?_
                          refine lv_i2l hx hb dX9_digest_127 rfl ?_
                          refine lv_ladd hx hb dX9_digest_128 ?_
                          refine lv_lstore_n (lv' := [(1, .long ((31 * hh) + ((m_ofB f n r (j / 8) (j % 8)).toInt64))), (0, .ref x), (3, .int (nI j))]) hx hb dX9_digest_129 rfl hl (by decide) rfl (fun ls hl => ?_)
                          have hls := hl.1
                          refine lv_iinc (v := nI (j + 1)) (lv' := [(3, .int (nI (j + 1))), (1, .long ((31 * hh) + ((m_ofB f n r (j / 8) (j % 8)).toInt64))), (0, .ref x)]) hx hb dX9_digest_130 hl (k := 2) rfl (zx_add rfl rfl) (by decide) rfl (fun ls hl => ?_)
                          have hls := hl.1
                          refine lv_goto (tgt := 96) hx hb dX9_digest_133 (by decide) ?_
                          exact ih96 (j + 1) (by omega) (by omega) _ _ _ (by rw [hhe]; rfl) _ _ hW hS _ (lv_sub hl [2, 1, 0] rfl)
                    exact hj96 (8 * n + 1) (0) (by omega) (by omega) _ _ _ (by rw [hhe]; rfl) _ _ hW hS _ (lv_sub hl [1, 2, 0] rfl)
                  · skip
                    have kc68_2 := mt (zn_le (a := 18) (b := j) rfl rfl (by omega) (by omega)).mpr c68_2
                    refine lv_ldc2 (v := 31) hx hb hown (X.w q1952) dX9_digest_71 ?_
                    refine lv_lload_n hx hb dX9_digest_74 rfl (lv_at hl 1 rfl) ?_
                    refine lv_lmul hx hb dX9_digest_75 ?_
                    refine lv_aload_n hx hb dX9_digest_76 rfl (lv_at hl 0 rfl) ?_
                    refine z_get X (hW.H.at 0 0 rfl rfl) zF_RX9_7_12 rfl dX9_digest_77 ?_
                    refine lv_bipush (v := 8) hx hb dX9_digest_80 (by decide) ?_
                    refine lv_iload_n hx hb dX9_digest_82 rfl (lv_at hl 2 rfl) ?_
                    refine lv_iadd hx hb dX9_digest_83 ?_
                    refine z_iald X (j := 8 + j) (hW.H.at 1 0 rfl rfl) (zx_add rfl rfl) (by omega) (by decide) dX9_digest_84 ?_
                    refine lv_i2l hx hb dX9_digest_85 rfl ?_
                    refine lv_ladd hx hb dX9_digest_86 ?_
                    refine lv_lstore_n (lv' := [(1, .long ((31 * hh) + ((f (8 + j)).toInt64))), (0, .ref x), (3, .int (nI j))]) hx hb dX9_digest_87 rfl hl (by decide) rfl (fun ls hl => ?_)
                    have hls := hl.1
                    refine lv_iinc (v := nI (j + 1)) (lv' := [(3, .int (nI (j + 1))), (1, .long ((31 * hh) + ((f (8 + j)).toInt64))), (0, .ref x)]) hx hb dX9_digest_88 hl (k := 2) rfl (zx_add rfl rfl) (by decide) rfl (fun ls hl => ?_)
                    have hls := hl.1
                    refine lv_goto (tgt := 65) hx hb dX9_digest_91 (by decide) ?_
                    exact ih65 (j + 1) (by omega) (by omega) _ _ _ (by rw [hhe]; rfl) _ _ hW hS _ (lv_sub hl [2, 1, 0] rfl)
              exact hj65 (18 + 1) (0) (by omega) (by omega) _ _ _ (by rw [hhe]; rfl) _ _ hW hS _ (lv_sub hl [1, 2, 0] rfl)
            · skip
              have kc40_1 := mt (zn_le (a := 4) (b := j) rfl rfl (by omega) (by omega)).mpr c40_1
              refine lv_ldc2 (v := 31) hx hb hown (X.w q1952) dX9_digest_43 ?_
              refine lv_lload_n hx hb dX9_digest_46 rfl (lv_at hl 1 rfl) ?_
              refine lv_lmul hx hb dX9_digest_47 ?_
              refine lv_aload_n hx hb dX9_digest_48 rfl (lv_at hl 0 rfl) ?_
              refine z_get X (hW.H.at 0 0 rfl rfl) zF_RX9_7_12 rfl dX9_digest_49 ?_
              refine lv_iload_n hx hb dX9_digest_52 rfl (lv_at hl 2 rfl) ?_
              refine z_iald X (j := j) (hW.H.at 1 0 rfl rfl) rfl (by omega) (by decide) dX9_digest_53 ?_
              refine lv_i2l hx hb dX9_digest_54 rfl ?_
              refine lv_ladd hx hb dX9_digest_55 ?_
              refine lv_lstore_n (lv' := [(1, .long ((31 * hh) + ((f j).toInt64))), (0, .ref x), (3, .int (nI j))]) hx hb dX9_digest_56 rfl hl (by decide) rfl (fun ls hl => ?_)
              have hls := hl.1
              refine lv_iinc (v := nI (j + 1)) (lv' := [(3, .int (nI (j + 1))), (1, .long ((31 * hh) + ((f j).toInt64))), (0, .ref x)]) hx hb dX9_digest_57 hl (k := 2) rfl (zx_add rfl rfl) (by decide) rfl (fun ls hl => ?_)
              have hls := hl.1
              refine lv_goto (tgt := 38) hx hb dX9_digest_60 (by decide) ?_
              exact ih38 (j + 1) (by omega) (by omega) _ _ _ (by rw [hhe]; rfl) _ _ hW hS _ (lv_sub hl [2, 1, 0] rfl)
        exact hj38 (4 + 1) (0) (by omega) (by omega) _ _ _ (by rw [hhe]; rfl) _ _ hW hS _ (lv_sub hl [1, 2, 0] rfl)
      · skip
        have kc14_0 := mt (zn_le (a := 12) (b := j) rfl rfl (by omega) (by omega)).mpr c14_0
        refine lv_ldc2 (v := 31) hx hb hown (X.w q1952) dX9_digest_17 ?_
        refine lv_lload_n hx hb dX9_digest_20 rfl (lv_at hl 1 rfl) ?_
        refine lv_lmul hx hb dX9_digest_21 ?_
        refine lv_aload_n hx hb dX9_digest_22 rfl (lv_at hl 0 rfl) ?_
        refine lv_iload_n hx hb dX9_digest_23 rfl (lv_at hl 2 rfl) ?_
        refine zc_ro (zr_V (As := [.int (nI j)]) (rest := [.long (31 * hh)]) X (m_X9_counted l g x a0 a1 a2 a3 a4 a5 a6 k ty at_ tl 0 val bF bc f j n (by omega) (by omega) (by first | exact h6c | exact h6 | (simp (disch := omega) only [upd_n]; first | exact h6c | exact h6))) zL_RX9_216 (ci := 12) rfl (hW.H.at 0 0 rfl rfl) (zH.cons (va_P.one (hW.H.at 0 0 rfl rfl)) (zH.cons (va_P.one (hW.H.at 1 0 rfl rfl)) zH.nil)) hS hA0 hls rfl (Nat.le_of_ble_eq_true rfl) ⟨rfl, rfl, Nat.le_of_ble_eq_true rfl, Nat.le_of_ble_eq_true rfl, (Nat.le_of_ble_eq_true rfl), (Nat.le_of_ble_eq_true rfl)⟩ dX9_digest_24) ?_
        refine lv_i2l hx hb dX9_digest_27 rfl ?_
        refine lv_ladd hx hb dX9_digest_28 ?_
        refine lv_lstore_n (lv' := [(1, .long ((31 * hh) + ((m_cnt f n k j).toInt64))), (0, .ref x), (3, .int (nI j))]) hx hb dX9_digest_29 rfl hl (by decide) rfl (fun ls hl => ?_)
        have hls := hl.1
        refine lv_iinc (v := nI (j + 1)) (lv' := [(3, .int (nI (j + 1))), (1, .long ((31 * hh) + ((m_cnt f n k j).toInt64))), (0, .ref x)]) hx hb dX9_digest_30 hl (k := 2) rfl (zx_add rfl rfl) (by decide) rfl (fun ls hl => ?_)
        have hls := hl.1
        refine lv_goto (tgt := 11) hx hb dX9_digest_33 (by decide) ?_
        exact ih11 (j + 1) (by omega) (by omega) _ _ _ (by rw [hhe]; rfl) _ _ hW hS _ (lv_sub hl [2, 1, 0] rfl)
  exact hj11 (12 + 1) (0) (by omega) (by omega) _ bC t rfl _ _ hW hS _ (lv_sub hl [2, 1, 0] rfl)
