set_option maxRecDepth 100000
theorem zP_RX9_167_12 : zP RX9 167 12 13 .int := ⟨RX9, TX9, 15, "SpoilMeadowsModel", tyX9, rfl, in_X9, by decide, .inl q1615, .inl rfl, tyX9_ok, nmX9, by decide +kernel, rfl⟩
theorem zL_RX9_185 : zLV RX9 185 RX9 yX9_isPart cX9_isPart 2 (Option.some Jvm.ClassFile.FieldType.boolean) 0 := ⟨.inl q1826, q1828, qs56, q103, rfl, q1829, ⟨by decide +kernel, by decide +kernel, by decide +kernel⟩⟩
theorem zL_RX9_188 : zLV RX9 188 RX9 yX9_isText cX9_isText 2 (Option.some Jvm.ClassFile.FieldType.boolean) 0 := ⟨.inl q1822, q1824, qs55, q103, rfl, q1825, ⟨by decide +kernel, by decide +kernel, by decide +kernel⟩⟩
theorem zF_RX9_157_12 : zF RX9 157 12 10 := ⟨RX9, TX9, 15, "SpoilMeadowsModel", rfl, in_X9, by decide, .inl q1612, .inl rfl⟩
abbrev rm_X9_isText : Room := { frames := 5, cells := 0, slots := 0, locals := 107 }
set_option maxHeartbeats 4000000 in
set_option maxRecDepth 100000 in
theorem m_X9_isText (l : Launch) (g : zG) (x a0 a1 a2 a3 a4 a5 a6 : Nat) (k ty at_ tl : Nat) (thr val : Int32) (bF bC : Bool) (tx to : Nat → Int32) (hty : ty ≤ 60)  (sz : Nat) : zWR l yX9_isText cX9_isText 2 (Option.some Jvm.ClassFile.FieldType.boolean) rm_X9_isText g [.ref x] ([[(x, .inr (12, [.ref a0, .ref a1, .ref a2, .int (nI k), .ref a3, .ref a4, .ref a5, .int (nI ty), .int thr, .int (nI at_), .int (zb bF), .int val, .ref a6, .int (nI tl), .int (zb bC)]))], [(a5, .inl (g.2.1 0, 60, .inl tx))], [(a6, .inl (g.2.1 0, 93, .inl to))]] : List va_W) 0 0 sz (fun zv gs' => ∃ (t tl' : Nat) (to' : Nat → Int32) (val' : Int32), p_end tx ty t ∧ zv = some (.int (zb (p_ok tx ty (p_pos tx ty t) && decide (p_j tx ty (p_pos tx ty t) = ty)))) ∧ gs' = [[(x, .inr (12, [.ref a0, .ref a1, .ref a2, .int (nI k), .ref a3, .ref a4, .ref a5, .int (nI ty), .int thr, .int (nI (p_j tx ty (p_pos tx ty t))), .int (zb (decide (p_j tx ty (p_pos tx ty t) < ty))), .int val', .ref a6, .int (nI tl'), .int (zb bC)]))], [(a5, .inl (g.2.1 0, 60, .inl tx))], [(a6, .inl (g.2.1 0, 93, .inl to'))]] ∧ (p_ok tx ty (p_pos tx ty t) = true → tl' = t + 1 ∧ p_told tx ty to' (t + 1))) := by
  refine zWR.start (by decide) (Nat.le_of_ble_eq_true rfl) ?_
  intro zp ze s zm zbl zmt zc ls A X hr hlocks hinn hl hAe hW hS hA hA0
  have hx := X.1
  have hb := X.2.1
  have hml := X.2.2.1
  have hown := X.2.2.2.1
  have hls := hl.1
  have hl : lv_has ls 2 [(0, .ref x)] := hl
  refine lv_aload_n hx hb dX9_isText_0 rfl (lv_at hl 0 rfl) ?_
  refine lv_iconst (v := 0) hx hb dX9_isText_1 rfl ?_
  refine z_put X hW hS 0 0 rfl rfl zP_RX9_154_12 rfl rfl (Nat.le_of_ble_eq_true rfl) dX9_isText_2 (fun H locs hW hS => ?_)
  have hW : zW g A ([[(x, .inr (12, [.ref a0, .ref a1, .ref a2, .int (nI k), .ref a3, .ref a4, .ref a5, .int (nI ty), .int thr, .int 0, .int (zb bF), .int val, .ref a6, .int (nI tl), .int (zb bC)]))], [(a5, .inl (g.2.1 0, 60, .inl tx))], [(a6, .inl (g.2.1 0, 93, .inl to))]] : List va_W) H := hW
  refine lv_aload_n hx hb dX9_isText_5 rfl (lv_at hl 0 rfl) ?_
  refine lv_iconst (v := 0) hx hb dX9_isText_6 rfl ?_
  refine z_put X hW hS 0 0 rfl rfl zP_RX9_167_12 rfl rfl (Nat.le_of_ble_eq_true rfl) dX9_isText_7 (fun H locs hW hS => ?_)
  have hW : zW g A ([[(x, .inr (12, [.ref a0, .ref a1, .ref a2, .int (nI k), .ref a3, .ref a4, .ref a5, .int (nI ty), .int thr, .int 0, .int (zb bF), .int val, .ref a6, .int 0, .int (zb bC)]))], [(a5, .inl (g.2.1 0, 60, .inl tx))], [(a6, .inl (g.2.1 0, 93, .inl to))]] : List va_W) H := hW
  refine lv_aload_n hx hb dX9_isText_10 rfl (lv_at hl 0 rfl) ?_
  refine lv_iconst (v := 0) hx hb dX9_isText_11 rfl ?_
  refine z_put X hW hS 0 0 rfl rfl zP_RX9_157_12 rfl rfl (Nat.le_of_ble_eq_true rfl) dX9_isText_12 (fun H locs hW hS => ?_)
  have hW : zW g A ([[(x, .inr (12, [.ref a0, .ref a1, .ref a2, .int (nI k), .ref a3, .ref a4, .ref a5, .int (nI ty), .int thr, .int 0, .int 0, .int val, .ref a6, .int 0, .int (zb bC)]))], [(a5, .inl (g.2.1 0, 60, .inl tx))], [(a6, .inl (g.2.1 0, 93, .inl to))]] : List va_W) H := hW
  refine lv_iconst (v := 1) hx hb dX9_isText_15 rfl ?_
  refine lv_istore_n (lv' := [(1, .int 1), (0, .ref x)]) hx hb dX9_isText_16 rfl hl (by decide) rfl (fun ls hl => ?_)
  have hls := hl.1
  refine lv_iload_n hx hb dX9_isText_17 rfl (lv_at hl 0 rfl) ?_
  refine lv_if_eq (tgt := 70) hx hb dX9_isText_18 (by decide) (fun c18_0 => ?_) (fun c18_0 => ?_)
  · exact absurd c18_0 (by decide)
  · skip
    have hj21 : ∀ (zn pz : Nat) (h_le : pz ≤ ty) (h_fu : ty < pz + zn) (t : Nat) (bF1 : Bool) (val1 : Int32) (c : Nat → Int32) (hpz : pz = p_pos tx ty t) (hgo : ∀ s, s < t → p_go tx ty s = true) (htd : p_told tx ty c t) (H : Heap) (locs : List Loc), zW g A ([[(x, .inr (12, [.ref a0, .ref a1, .ref a2, .int (nI k), .ref a3, .ref a4, .ref a5, .int (nI ty), .int thr, .int (nI pz), .int (zb bF1), .int val1, .ref a6, .int (nI t), .int (zb bC)]))], [(a5, .inl (g.2.1 0, 60, .inl tx))], [(a6, .inl (g.2.1 0, 93, .inl c))]] : List va_W) H → va_S A s.heap H locs → ∀ (ls : Array Slot), lv_has ls 2 [(0, .ref x)] → W zp l ze rm_X9_isText s zm ([.ref x] : List Value).toArray zbl zmt zc H locs 0 0 (MQ zbl (zQW g ([[(x, .inr (12, [.ref a0, .ref a1, .ref a2, .int (nI k), .ref a3, .ref a4, .ref a5, .int (nI ty), .int thr, .int (nI at_), .int (zb bF), .int val, .ref a6, .int (nI tl), .int (zb bC)]))], [(a5, .inl (g.2.1 0, 60, .inl tx))], [(a6, .inl (g.2.1 0, 93, .inl to))]] : List va_W) (fun zv gs' => ∃ (t tl' : Nat) (to' : Nat → Int32) (val' : Int32), p_end tx ty t ∧ zv = some (.int (zb (p_ok tx ty (p_pos tx ty t) && decide (p_j tx ty (p_pos tx ty t) = ty)))) ∧ gs' = [[(x, .inr (12, [.ref a0, .ref a1, .ref a2, .int (nI k), .ref a3, .ref a4, .ref a5, .int (nI ty), .int thr, .int (nI (p_j tx ty (p_pos tx ty t))), .int (zb (decide (p_j tx ty (p_pos tx ty t) < ty))), .int val', .ref a6, .int (nI tl'), .int (zb bC)]))], [(a5, .inl (g.2.1 0, 60, .inl tx))], [(a6, .inl (g.2.1 0, 93, .inl to'))]] ∧ (p_ok tx ty (p_pos tx ty t) = true → tl' = t + 1 ∧ p_told tx ty to' (t + 1)))) ([.ref x] : List Value).toArray s 0 0 A) (F0 zm 21 ls []) := by
      intro zn
      induction zn with
      | zero => intro pz h_le h_fu; exact absurd h_fu (by omega)
      | succ zn ih21 =>
        intro pz h_le h_fu t bF1 val1 c hpz hgo htd H locs hW hS ls hl
        have hls := hl.1
        have h3 := p_pos_3 hgo
        rw [← hpz] at h3
        have hj := p_part_le (tx := tx) (ty := ty) (i := pz)
        have hj2 := hj.2.1 h3.2
        refine lv_aload_n hx hb dX9_isText_21 rfl (lv_at hl 0 rfl) ?_
        refine zc_wr (gc := [[(x, .inr (12, [.ref a0, .ref a1, .ref a2, .int (nI k), .ref a3, .ref a4, .ref a5, .int (nI ty), .int thr, .int (nI pz), .int (zb bF1), .int val1, .ref a6, .int (nI t), .int (zb bC)]))], [(a5, .inl (g.2.1 0, 60, .inl tx))], [(a6, .inl (g.2.1 0, 93, .inl c))]]) (gr := []) (zr_V (As := []) (rest := []) X (m_X9_isPart l g x a0 a1 a2 a3 a4 a5 a6 k ty pz t thr val1 bF1 bC tx c (by omega) (by omega) (by omega) _) zL_RX9_185 (ci := 12) rfl (hW.H.at 0 0 rfl rfl) (zW.pre (gc := [[(x, .inr (12, [.ref a0, .ref a1, .ref a2, .int (nI k), .ref a3, .ref a4, .ref a5, .int (nI ty), .int thr, .int (nI pz), .int (zb bF1), .int val1, .ref a6, .int (nI t), .int (zb bC)]))], [(a5, .inl (g.2.1 0, 60, .inl tx))], [(a6, .inl (g.2.1 0, 93, .inl c))]]) (gr := []) hW hA0) hS hA0 hls rfl (Nat.le_of_ble_eq_true rfl) ⟨rfl, rfl, Nat.le_of_ble_eq_true rfl, Nat.le_of_ble_eq_true rfl, (Nat.le_of_ble_eq_true rfl), (Nat.le_of_ble_eq_true rfl)⟩ dX9_isText_22) hW hS hA (fun v gc' H locs hpost hW hS => ?_)
        obtain ⟨to2, val3, rfl, rfl, hto2, oto2⟩ := hpost
        have hW : zW g A ([[(x, .inr (12, [.ref a0, .ref a1, .ref a2, .int (nI k), .ref a3, .ref a4, .ref a5, .int (nI ty), .int thr, .int (nI (p_j tx ty pz)), .int (zb (if p_ok tx ty pz then bF1 else decide (p_j tx ty pz < ty))), .int val3, .ref a6, .int (nI t), .int (zb bC)]))], [(a5, .inl (g.2.1 0, 60, .inl tx))], [(a6, .inl (g.2.1 0, 93, .inl to2))]] : List va_W) H := hW
        refine W.eq (g2 := F0 zm 25 ls [.int (zb (p_ok tx ty pz))]) rfl ?_
        refine zb_ifne (tgt := 30) hx hb dX9_isText_25 (by decide) (fun c25_3 => ?_) (fun c25_3 => ?_)
        · skip
          have htd2 : p_told tx ty to2 (t + 1) := by
            intro s hs
            rcases Nat.lt_or_ge s t with q | q
            · rw [oto2 _ (by omega), oto2 _ (by omega), oto2 _ (by omega)]; exact htd s q
            · have e : s = t := by omega
              subst e
              rw [← hpz]; exact hto2 c25_3
          refine lv_aload_n hx hb dX9_isText_30 rfl (lv_at hl 0 rfl) ?_
          refine lv_dup hx hb dX9_isText_31 rfl ?_
          refine z_get X (hW.H.at 0 0 rfl rfl) zF_RX9_167_12 rfl dX9_isText_32 ?_
          refine lv_iconst (v := 1) hx hb dX9_isText_35 rfl ?_
          refine lv_iadd hx hb dX9_isText_36 ?_
          refine z_stk (b := [.int (nI (t + 1)), .ref x]) (by rw [show ((nI t) + 1) = nI (t + 1) from zx_add rfl rfl]) ?_
          refine z_put X hW hS 0 0 rfl rfl zP_RX9_167_12 rfl rfl (Nat.le_of_ble_eq_true rfl) dX9_isText_37 (fun H locs hW hS => ?_)
          have hW : zW g A ([[(x, .inr (12, [.ref a0, .ref a1, .ref a2, .int (nI k), .ref a3, .ref a4, .ref a5, .int (nI ty), .int thr, .int (nI (p_j tx ty pz)), .int (zb (if p_ok tx ty pz then bF1 else decide (p_j tx ty pz < ty))), .int val3, .ref a6, .int (nI (t + 1)), .int (zb bC)]))], [(a5, .inl (g.2.1 0, 60, .inl tx))], [(a6, .inl (g.2.1 0, 93, .inl to2))]] : List va_W) H := hW
          refine lv_aload_n hx hb dX9_isText_40 rfl (lv_at hl 0 rfl) ?_
          refine lv_bipush (v := 59) hx hb dX9_isText_41 (by decide) ?_
          refine lv_bipush (v := 59) hx hb dX9_isText_43 (by decide) ?_
          refine zc_ro (zr_V (As := [.int 59, .int 59]) (rest := []) X (m_X9_isAt l g x a0 a1 a2 a3 a4 a5 a6 k ty (p_j tx ty pz) (t + 1) thr val3 (if p_ok tx ty pz then bF1 else decide (p_j tx ty pz < ty)) bC tx 59 59 (by omega) (by omega)) zL_RX9_160 (ci := 12) rfl (hW.H.at 0 0 rfl rfl) (zH.cons (va_P.one (hW.H.at 0 0 rfl rfl)) (zH.cons (va_P.one (hW.H.at 1 0 rfl rfl)) zH.nil)) hS hA0 hls rfl (Nat.le_of_ble_eq_true rfl) ⟨rfl, rfl, Nat.le_of_ble_eq_true rfl, Nat.le_of_ble_eq_true rfl, (Nat.le_of_ble_eq_true rfl), (Nat.le_of_ble_eq_true rfl)⟩ dX9_isText_45) ?_
          refine lv_istore_n (lv' := [(1, .int (zb (p_at tx ty (p_j tx ty pz) 59 59))), (0, .ref x)]) hx hb dX9_isText_48 rfl hl (by decide) rfl (fun ls hl => ?_)
          have hls := hl.1
          refine lv_aload_n hx hb dX9_isText_49 rfl (lv_at hl 1 rfl) ?_
          refine lv_dup hx hb dX9_isText_50 rfl ?_
          refine z_get X (hW.H.at 0 0 rfl rfl) zF_RX9_154_12 rfl dX9_isText_51 ?_
          refine lv_iload_n hx hb dX9_isText_54 rfl (lv_at hl 0 rfl) ?_
          refine zb_ifeq (tgt := 62) hx hb dX9_isText_55 (by decide) (fun c55_4 => ?_) (fun c55_4 => ?_)
          · skip
            refine lv_iconst (v := 0) hx hb dX9_isText_62 rfl ?_
            refine lv_iadd hx hb dX9_isText_63 ?_
            refine z_stk (b := [.int (nI (p_j tx ty pz + 0)), .ref x]) (by rw [show ((nI (p_j tx ty pz)) + 0) = nI (p_j tx ty pz + 0) from zx_add rfl rfl]) ?_
            refine z_put X hW hS 0 0 rfl rfl zP_RX9_154_12 rfl rfl (Nat.le_of_ble_eq_true rfl) dX9_isText_64 (fun H locs hW hS => ?_)
            have hW : zW g A ([[(x, .inr (12, [.ref a0, .ref a1, .ref a2, .int (nI k), .ref a3, .ref a4, .ref a5, .int (nI ty), .int thr, .int (nI (p_j tx ty pz + 0)), .int (zb (if p_ok tx ty pz then bF1 else decide (p_j tx ty pz < ty))), .int val3, .ref a6, .int (nI (t + 1)), .int (zb bC)]))], [(a5, .inl (g.2.1 0, 60, .inl tx))], [(a6, .inl (g.2.1 0, 93, .inl to2))]] : List va_W) H := hW
            refine lv_goto (tgt := 17) hx hb dX9_isText_67 (by decide) ?_
            refine lv_iload_n hx hb dX9_isText_17 rfl (lv_at hl 0 rfl) ?_
            refine zb_ifeq (tgt := 70) hx hb dX9_isText_18 (by decide) (fun c18_5 => ?_) (fun c18_5 => ?_)
            · skip
              refine lv_aload_n hx hb dX9_isText_70 rfl (lv_at hl 1 rfl) ?_
              refine lv_aload_n hx hb dX9_isText_71 rfl (lv_at hl 1 rfl) ?_
              refine z_get X (hW.H.at 0 0 rfl rfl) zF_RX9_154_12 rfl dX9_isText_72 ?_
              refine lv_aload_n hx hb dX9_isText_75 rfl (lv_at hl 1 rfl) ?_
              refine z_get X (hW.H.at 0 0 rfl rfl) zF_RX9_151_12 rfl dX9_isText_76 ?_
              refine lv_icmp_ge (tgt := 86) hx hb dX9_isText_79 (by decide) (fun c79_6 => ?_) (fun c79_6 => ?_)
              · skip
                have kc79_6 := (zn_le (a := ty) (b := p_j tx ty pz + 0) rfl rfl (by omega) (by omega)).mp c79_6
                refine lv_iconst (v := 0) hx hb dX9_isText_86 rfl ?_
                refine z_put X hW hS 0 0 rfl rfl zP_RX9_157_12 rfl rfl (Nat.le_of_ble_eq_true rfl) dX9_isText_87 (fun H locs hW hS => ?_)
                have hW : zW g A ([[(x, .inr (12, [.ref a0, .ref a1, .ref a2, .int (nI k), .ref a3, .ref a4, .ref a5, .int (nI ty), .int thr, .int (nI (p_j tx ty pz + 0)), .int 0, .int val3, .ref a6, .int (nI (t + 1)), .int (zb bC)]))], [(a5, .inl (g.2.1 0, 60, .inl tx))], [(a6, .inl (g.2.1 0, 93, .inl to2))]] : List va_W) H := hW
                refine lv_aload_n hx hb dX9_isText_90 rfl (lv_at hl 1 rfl) ?_
                refine z_get X (hW.H.at 0 0 rfl rfl) zF_RX9_154_12 rfl dX9_isText_91 ?_
                refine lv_aload_n hx hb dX9_isText_94 rfl (lv_at hl 1 rfl) ?_
                refine z_get X (hW.H.at 0 0 rfl rfl) zF_RX9_151_12 rfl dX9_isText_95 ?_
                refine lv_icmp_ne (tgt := 105) hx hb dX9_isText_98 (by decide) (fun c98_7 => ?_) (fun c98_7 => ?_)
                · skip
                  have kc98_7 := mt (zn_eq (a := p_j tx ty pz + 0) (b := ty) rfl rfl (by omega) (by omega)).mpr c98_7
                  refine lv_iconst (v := 0) hx hb dX9_isText_105 rfl ?_
                  refine zWR.zret X hAe hW hS hr rfl hlocks ?_ (Nat.le_of_ble_eq_true rfl) (Nat.le_of_ble_eq_true rfl) dX9_isText_106
                  refine ⟨t, t + 1, to2, val3, ⟨hgo, ?_⟩, ?_, ?_, ?_⟩
                  · unfold p_go; rw [← hpz]; simp [c25_3, c55_4, c18_5, c79_6, c98_7]
                  · rw [← hpz, decide_eq_false (by omega)]; simp [c25_3, c55_4, c18_5, c79_6, c98_7]; rfl
                  · rw [← hpz, decide_eq_false (show ¬ p_j tx ty pz < ty by omega)]; rfl
                  · intro _; exact ⟨rfl, htd2⟩
                · skip
                  have kc98_7 := (zn_eq (a := p_j tx ty pz + 0) (b := ty) rfl rfl (by omega) (by omega)).mp c98_7
                  refine lv_iconst (v := 1) hx hb dX9_isText_101 rfl ?_
                  refine lv_goto (tgt := 106) hx hb dX9_isText_102 (by decide) ?_
                  refine zWR.zret X hAe hW hS hr rfl hlocks ?_ (Nat.le_of_ble_eq_true rfl) (Nat.le_of_ble_eq_true rfl) dX9_isText_106
                  refine ⟨t, t + 1, to2, val3, ⟨hgo, ?_⟩, ?_, ?_, ?_⟩
                  · unfold p_go; rw [← hpz]; simp [c25_3, c55_4, c18_5, c79_6, c98_7]
                  · rw [← hpz, decide_eq_true (by omega)]; simp [c25_3, c55_4, c18_5, c79_6, c98_7]; rfl
                  · rw [← hpz, decide_eq_false (show ¬ p_j tx ty pz < ty by omega)]; rfl
                  · intro _; exact ⟨rfl, htd2⟩
              · skip
                have kc79_6 := mt (zn_le (a := ty) (b := p_j tx ty pz + 0) rfl rfl (by omega) (by omega)).mpr c79_6
                refine lv_iconst (v := 1) hx hb dX9_isText_82 rfl ?_
                refine lv_goto (tgt := 87) hx hb dX9_isText_83 (by decide) ?_
                refine z_put X hW hS 0 0 rfl rfl zP_RX9_157_12 rfl rfl (Nat.le_of_ble_eq_true rfl) dX9_isText_87 (fun H locs hW hS => ?_)
                have hW : zW g A ([[(x, .inr (12, [.ref a0, .ref a1, .ref a2, .int (nI k), .ref a3, .ref a4, .ref a5, .int (nI ty), .int thr, .int (nI (p_j tx ty pz + 0)), .int 1, .int val3, .ref a6, .int (nI (t + 1)), .int (zb bC)]))], [(a5, .inl (g.2.1 0, 60, .inl tx))], [(a6, .inl (g.2.1 0, 93, .inl to2))]] : List va_W) H := hW
                refine lv_aload_n hx hb dX9_isText_90 rfl (lv_at hl 1 rfl) ?_
                refine z_get X (hW.H.at 0 0 rfl rfl) zF_RX9_154_12 rfl dX9_isText_91 ?_
                refine lv_aload_n hx hb dX9_isText_94 rfl (lv_at hl 1 rfl) ?_
                refine z_get X (hW.H.at 0 0 rfl rfl) zF_RX9_151_12 rfl dX9_isText_95 ?_
                refine lv_icmp_ne (tgt := 105) hx hb dX9_isText_98 (by decide) (fun c98_8 => ?_) (fun c98_8 => ?_)
                · skip
                  have kc98_8 := mt (zn_eq (a := p_j tx ty pz + 0) (b := ty) rfl rfl (by omega) (by omega)).mpr c98_8
                  refine lv_iconst (v := 0) hx hb dX9_isText_105 rfl ?_
                  refine zWR.zret X hAe hW hS hr rfl hlocks ?_ (Nat.le_of_ble_eq_true rfl) (Nat.le_of_ble_eq_true rfl) dX9_isText_106
                  refine ⟨t, t + 1, to2, val3, ⟨hgo, ?_⟩, ?_, ?_, ?_⟩
                  · unfold p_go; rw [← hpz]; simp [c25_3, c55_4, c18_5, c79_6, c98_8]
                  · rw [← hpz, decide_eq_false (by omega)]; simp [c25_3, c55_4, c18_5, c79_6, c98_8]; rfl
                  · rw [← hpz, decide_eq_true (show p_j tx ty pz < ty by omega)]; rfl
                  · intro _; exact ⟨rfl, htd2⟩
                · skip
                  have kc98_8 := (zn_eq (a := p_j tx ty pz + 0) (b := ty) rfl rfl (by omega) (by omega)).mp c98_8
                  refine lv_iconst (v := 1) hx hb dX9_isText_101 rfl ?_
                  refine lv_goto (tgt := 106) hx hb dX9_isText_102 (by decide) ?_
                  refine zWR.zret X hAe hW hS hr rfl hlocks ?_ (Nat.le_of_ble_eq_true rfl) (Nat.le_of_ble_eq_true rfl) dX9_isText_106
                  refine ⟨t, t + 1, to2, val3, ⟨hgo, ?_⟩, ?_, ?_, ?_⟩
                  · unfold p_go; rw [← hpz]; simp [c25_3, c55_4, c18_5, c79_6, c98_8]
                  · rw [← hpz, decide_eq_true (by omega)]; simp [c25_3, c55_4, c18_5, c79_6, c98_8]; rfl
                  · rw [← hpz, decide_eq_true (show p_j tx ty pz < ty by omega)]; rfl
                  · intro _; exact ⟨rfl, htd2⟩
            · exact absurd (c55_4.symm.trans c18_5) (by decide)
          · skip
            have hlt2 := p_at_lt c55_4
            refine lv_iconst (v := 1) hx hb dX9_isText_58 rfl ?_
            refine lv_goto (tgt := 63) hx hb dX9_isText_59 (by decide) ?_
            refine lv_iadd hx hb dX9_isText_63 ?_
            refine z_stk (b := [.int (nI (p_j tx ty pz + 1)), .ref x]) (by rw [show ((nI (p_j tx ty pz)) + 1) = nI (p_j tx ty pz + 1) from zx_add rfl rfl]) ?_
            refine z_put X hW hS 0 0 rfl rfl zP_RX9_154_12 rfl rfl (Nat.le_of_ble_eq_true rfl) dX9_isText_64 (fun H locs hW hS => ?_)
            have hW : zW g A ([[(x, .inr (12, [.ref a0, .ref a1, .ref a2, .int (nI k), .ref a3, .ref a4, .ref a5, .int (nI ty), .int thr, .int (nI (p_j tx ty pz + 1)), .int (zb (if p_ok tx ty pz then bF1 else decide (p_j tx ty pz < ty))), .int val3, .ref a6, .int (nI (t + 1)), .int (zb bC)]))], [(a5, .inl (g.2.1 0, 60, .inl tx))], [(a6, .inl (g.2.1 0, 93, .inl to2))]] : List va_W) H := hW
            refine lv_goto (tgt := 17) hx hb dX9_isText_67 (by decide) ?_
            refine lv_iload_n hx hb dX9_isText_17 rfl (lv_at hl 0 rfl) ?_
            refine zb_ifeq (tgt := 70) hx hb dX9_isText_18 (by decide) (fun c18_9 => ?_) (fun c18_9 => ?_)
            · exact absurd (c55_4.symm.trans c18_9) (by decide)
            · skip
              exact ih21 (p_j tx ty pz + 1) (by omega) (by omega) (t + 1) _ _ _ (by rw [p_pos, ← hpz]) (lt_s hgo (by unfold p_go; rw [← hpz]; simp [c25_3, c55_4, c18_9])) htd2 _ _ hW hS _ (lv_sub hl [1] rfl)
        · skip
          refine lv_iconst (v := 0) hx hb dX9_isText_28 rfl ?_
          refine zWR.zret X hAe hW hS hr rfl hlocks ?_ (Nat.le_of_ble_eq_true rfl) (Nat.le_of_ble_eq_true rfl) dX9_isText_29
          refine ⟨t, t, to2, val3, ⟨hgo, ?_⟩, ?_, ?_, ?_⟩
          · unfold p_go; rw [← hpz]; simp [c25_3]
          · rw [← hpz]; simp [c25_3]; rfl
          · rw [← hpz]; simp only [c25_3, Bool.false_eq_true, if_false]
          · rw [← hpz]; intro h; simp [c25_3] at h
    exact hj21 (ty + 1) (0) (by omega) (by omega) 0 false _ _ rfl (fun _ h => absurd h (by omega)) (fun _ h => absurd h (by omega)) _ _ hW hS _ (lv_sub hl [1] rfl)

abbrev rm_X9_firstError : Room := { frames := 6, cells := 0, slots := 0, locals := 128 }
set_option maxHeartbeats 4000000 in
set_option maxRecDepth 100000 in
theorem m_X9_firstError (l : Launch) (g : zG) (x a0 a1 a2 a3 a4 a5 a6 : Nat) (k ty at_ tl : Nat) (thr val : Int32) (bF bC : Bool) (tx to : Nat → Int32) (hty : ty ≤ 60)  (sz : Nat) : zWR l yX9_firstError cX9_firstError 2 (Option.some Jvm.ClassFile.FieldType.int) rm_X9_firstError g [.ref x] ([[(x, .inr (12, [.ref a0, .ref a1, .ref a2, .int (nI k), .ref a3, .ref a4, .ref a5, .int (nI ty), .int thr, .int (nI at_), .int (zb bF), .int val, .ref a6, .int (nI tl), .int (zb bC)]))], [(a5, .inl (g.2.1 0, 60, .inl tx))], [(a6, .inl (g.2.1 0, 93, .inl to))]] : List va_W) 0 0 sz (fun zv gs' => ∃ (t tl' at' : Nat) (bF' : Bool) (to' : Nat → Int32) (val' : Int32), p_end tx ty t ∧ zv = some (.int (nI (p_j tx ty (p_pos tx ty t)))) ∧ gs' = [[(x, .inr (12, [.ref a0, .ref a1, .ref a2, .int (nI k), .ref a3, .ref a4, .ref a5, .int (nI ty), .int 0, .int (nI at'), .int (zb bF'), .int val', .ref a6, .int (nI tl'), .int (zb bC)]))], [(a5, .inl (g.2.1 0, 60, .inl tx))], [(a6, .inl (g.2.1 0, 93, .inl to'))]]) := by
  refine zWR.start (by decide) (Nat.le_of_ble_eq_true rfl) ?_
  intro zp ze s zm zbl zmt zc ls A X hr hlocks hinn hl hAe hW hS hA hA0
  have hx := X.1
  have hb := X.2.1
  have hml := X.2.2.1
  have hown := X.2.2.2.1
  have hls := hl.1
  have hl : lv_has ls 2 [(0, .ref x)] := hl
  refine lv_aload_n hx hb dX9_firstError_0 rfl (lv_at hl 0 rfl) ?_
  refine lv_iconst (v := 0) hx hb dX9_firstError_1 rfl ?_
  refine z_put X hW hS 0 0 rfl rfl zP_RX9_32_12 rfl rfl (Nat.le_of_ble_eq_true rfl) dX9_firstError_2 (fun H locs hW hS => ?_)
  have hW : zW g A ([[(x, .inr (12, [.ref a0, .ref a1, .ref a2, .int (nI k), .ref a3, .ref a4, .ref a5, .int (nI ty), .int 0, .int (nI at_), .int (zb bF), .int val, .ref a6, .int (nI tl), .int (zb bC)]))], [(a5, .inl (g.2.1 0, 60, .inl tx))], [(a6, .inl (g.2.1 0, 93, .inl to))]] : List va_W) H := hW
  refine lv_aload_n hx hb dX9_firstError_5 rfl (lv_at hl 0 rfl) ?_
  refine zc_wr (gc := [[(x, .inr (12, [.ref a0, .ref a1, .ref a2, .int (nI k), .ref a3, .ref a4, .ref a5, .int (nI ty), .int 0, .int (nI at_), .int (zb bF), .int val, .ref a6, .int (nI tl), .int (zb bC)]))], [(a5, .inl (g.2.1 0, 60, .inl tx))], [(a6, .inl (g.2.1 0, 93, .inl to))]]) (gr := []) (zr_V (As := []) (rest := []) X (m_X9_isText l g x a0 a1 a2 a3 a4 a5 a6 k ty at_ tl 0 val bF bC tx to (by omega) _) zL_RX9_188 (ci := 12) rfl (hW.H.at 0 0 rfl rfl) (zW.pre (gc := [[(x, .inr (12, [.ref a0, .ref a1, .ref a2, .int (nI k), .ref a3, .ref a4, .ref a5, .int (nI ty), .int 0, .int (nI at_), .int (zb bF), .int val, .ref a6, .int (nI tl), .int (zb bC)]))], [(a5, .inl (g.2.1 0, 60, .inl tx))], [(a6, .inl (g.2.1 0, 93, .inl to))]]) (gr := []) hW hA0) hS hA0 hls rfl (Nat.le_of_ble_eq_true rfl) ⟨rfl, rfl, Nat.le_of_ble_eq_true rfl, Nat.le_of_ble_eq_true rfl, (Nat.le_of_ble_eq_true rfl), (Nat.le_of_ble_eq_true rfl)⟩ dX9_firstError_6) hW hS hA (fun v gc' H locs hpost hW hS => ?_)
  obtain ⟨t1, tlt1, tot1, valt1, hend, rfl, rfl, hto⟩ := hpost
  have hW : zW g A ([[(x, .inr (12, [.ref a0, .ref a1, .ref a2, .int (nI k), .ref a3, .ref a4, .ref a5, .int (nI ty), .int 0, .int (nI (p_j tx ty (p_pos tx ty t1))), .int (zb (decide (p_j tx ty (p_pos tx ty t1) < ty))), .int valt1, .ref a6, .int (nI tlt1), .int (zb bC)]))], [(a5, .inl (g.2.1 0, 60, .inl tx))], [(a6, .inl (g.2.1 0, 93, .inl tot1))]] : List va_W) H := hW
  refine W.eq (g2 := F0 zm 9 ls [.int (zb (p_ok tx ty (p_pos tx ty t1) && decide (p_j tx ty (p_pos tx ty t1) = ty)))]) rfl ?_
  refine lv_istore_n (lv' := [(1, .int (zb (p_ok tx ty (p_pos tx ty t1) && decide (p_j tx ty (p_pos tx ty t1) = ty)))), (0, .ref x)]) hx hb dX9_firstError_9 rfl hl (by decide) rfl (fun ls hl => ?_)
  have hls := hl.1
  refine lv_iload_n hx hb dX9_firstError_10 rfl (lv_at hl 0 rfl) ?_
  refine zb_ifne (tgt := 28) hx hb dX9_firstError_11 (by decide) (fun c11_1 => ?_) (fun c11_1 => ?_)
  · skip
    refine lv_aload_n hx hb dX9_firstError_28 rfl (lv_at hl 1 rfl) ?_
    refine z_get X (hW.H.at 0 0 rfl rfl) zF_RX9_151_12 rfl dX9_firstError_29 ?_
    refine zWR.iret X hAe hW hS hr hlocks ?_ (Nat.le_of_ble_eq_true rfl) (Nat.le_of_ble_eq_true rfl) dX9_firstError_32
    have hj := (p_end_le hend).2
    refine ⟨_, _, _, _, _, _, hend, ?_, rfl⟩
    have e : p_j tx ty (p_pos tx ty t1) = ty := by
      have h := c11_1
      first | (simp only [Bool.and_eq_true, decide_eq_true_eq] at h; exact h.2) | (have h2 := of_decide_eq_false h; omega)
    rw [e]
  · skip
    refine lv_aload_n hx hb dX9_firstError_14 rfl (lv_at hl 1 rfl) ?_
    refine z_get X (hW.H.at 0 0 rfl rfl) zF_RX9_157_12 rfl dX9_firstError_15 ?_
    refine zb_ifeq (tgt := 28) hx hb dX9_firstError_18 (by decide) (fun c18_2 => ?_) (fun c18_2 => ?_)
    · skip
      refine lv_aload_n hx hb dX9_firstError_28 rfl (lv_at hl 1 rfl) ?_
      refine z_get X (hW.H.at 0 0 rfl rfl) zF_RX9_151_12 rfl dX9_firstError_29 ?_
      refine zWR.iret X hAe hW hS hr hlocks ?_ (Nat.le_of_ble_eq_true rfl) (Nat.le_of_ble_eq_true rfl) dX9_firstError_32
      have hj := (p_end_le hend).2
      refine ⟨_, _, _, _, _, _, hend, ?_, rfl⟩
      have e : p_j tx ty (p_pos tx ty t1) = ty := by
        have h := c18_2
        first | (simp only [Bool.and_eq_true, decide_eq_true_eq] at h; exact h.2) | (have h2 := of_decide_eq_false h; omega)
      rw [e]
    · skip
      refine lv_aload_n hx hb dX9_firstError_21 rfl (lv_at hl 1 rfl) ?_
      refine z_get X (hW.H.at 0 0 rfl rfl) zF_RX9_154_12 rfl dX9_firstError_22 ?_
      refine lv_goto (tgt := 32) hx hb dX9_firstError_25 (by decide) ?_
      refine zWR.iret X hAe hW hS hr hlocks ?_ (Nat.le_of_ble_eq_true rfl) (Nat.le_of_ble_eq_true rfl) dX9_firstError_32
      have hj := (p_end_le hend).2
      refine ⟨_, _, _, _, _, _, hend, rfl, rfl⟩
