set_option maxRecDepth 100000
theorem zL_RX9_36 : zLS RX9 36 yX9_in cX9_in 3 (Option.some Jvm.ClassFile.FieldType.boolean) 3 := ⟨.inl q1668, q1669, q103, q1670, ⟨by decide +kernel, by decide +kernel, by decide +kernel⟩⟩
theorem zL_RX9_54 : zLS RX9 54 yX9_meadowIn cX9_meadowIn 3 (Option.some Jvm.ClassFile.FieldType.int) 3 := ⟨.inl q1720, q1721, q103, q1722, ⟨by decide +kernel, by decide +kernel, by decide +kernel⟩⟩
theorem zL_RX9_58 : zLS RX9 58 yX9_bargeIn cX9_bargeIn 3 (Option.some Jvm.ClassFile.FieldType.int) 3 := ⟨.inl q1767, q1768, q103, q1769, ⟨by decide +kernel, by decide +kernel, by decide +kernel⟩⟩
theorem zL_RX9_61 : zLS RX9 61 yX9_runs cX9_runs 2 (Option.some Jvm.ClassFile.FieldType.boolean) 2 := ⟨.inl q1717, q1718, q103, q1719, ⟨by decide +kernel, by decide +kernel, by decide +kernel⟩⟩
theorem zL_RX9_65 : zLS RX9 65 yX9_isStopped cX9_isStopped 2 (Option.some Jvm.ClassFile.FieldType.boolean) 2 := ⟨.inl q1735, q1736, q103, q1737, ⟨by decide +kernel, by decide +kernel, by decide +kernel⟩⟩
theorem zL_RX9_68 : zLS RX9 68 yX9_room cX9_room 4 (Option.some Jvm.ClassFile.FieldType.int) 2 := ⟨.inl q1800, q1801, q103, q1802, ⟨by decide +kernel, by decide +kernel, by decide +kernel⟩⟩
theorem zL_RX9_72 : zLS RX9 72 yX9_way cX9_way 3 (Option.some Jvm.ClassFile.FieldType.int) 2 := ⟨.inl q1779, q1780, q103, q1781, ⟨by decide +kernel, by decide +kernel, by decide +kernel⟩⟩
theorem zL_RX9_75 : zLS RX9 75 yX9_isTooWet cX9_isTooWet 2 (Option.some Jvm.ClassFile.FieldType.boolean) 2 := ⟨.inl q1776, q1777, q103, q1778, ⟨by decide +kernel, by decide +kernel, by decide +kernel⟩⟩
theorem zL_RX9_78 : zLS RX9 78 yX9_isOpen cX9_isOpen 2 (Option.some Jvm.ClassFile.FieldType.boolean) 2 := ⟨.inl q1773, q1774, q103, q1775, ⟨by decide +kernel, by decide +kernel, by decide +kernel⟩⟩
theorem zL_RX9_81 : zLS RX9 81 yX9_siltIn cX9_siltIn 1 (Option.some Jvm.ClassFile.FieldType.int) 1 := ⟨.inl q1785, q1786, q103, q1787, ⟨by decide +kernel, by decide +kernel, by decide +kernel⟩⟩
theorem zL_RX9_85 : zLS RX9 85 yX9_bestOf cX9_bestOf 4 (Option.some Jvm.ClassFile.FieldType.int) 1 := ⟨.inl q1797, q1798, q103, q1799, ⟨by decide +kernel, by decide +kernel, by decide +kernel⟩⟩
theorem zL_RX9_88 : zLS RX9 88 yX9_goal cX9_goal 2 (Option.some Jvm.ClassFile.FieldType.int) 2 := ⟨.inl q1794, q1795, q103, q1796, ⟨by decide +kernel, by decide +kernel, by decide +kernel⟩⟩
abbrev rm_X9_in : Room := { frames := 0, cells := 0, slots := 0, locals := 0 }
set_option maxHeartbeats 4000000 in
set_option maxRecDepth 100000 in
theorem m_X9_in (l : Launch) (g : zG) (v lo hi : Int32) : zRO l yX9_in cX9_in 3 (Option.some Jvm.ClassFile.FieldType.boolean) rm_X9_in g [.int v, .int lo, .int hi] (fun _ => True) (.int (zb (m_in v lo hi))) := by
  refine zRO.start (by decide) (Nat.le_of_ble_eq_true rfl) ?_
  intro zp ze s zm zbl zmt zc ls X hr hlocks hP hl hS hA0
  have hx := X.1
  have hb := X.2.1
  have hml := X.2.2.1
  have hown := X.2.2.2.1
  have hls := hl.1
  have hl : lv_has ls 3 [(0, .int v), (1, .int lo), (2, .int hi)] := hl
  refine lv_iload_n hx hb dX9_in_0 rfl (lv_at hl 0 rfl) ?_
  refine lv_iload_n hx hb dX9_in_1 rfl (lv_at hl 1 rfl) ?_
  refine lv_icmp_lt (tgt := 14) hx hb dX9_in_2 (by decide) (fun c2_0 => ?_) (fun c2_0 => ?_)
  · skip
    refine lv_iconst (v := 0) hx hb dX9_in_14 rfl ?_
    refine zRO.zret X hr (zb_nar _) hlocks ?_ dX9_in_15
    simp [m_in, zb, c2_0]
  · skip
    refine lv_iload_n hx hb dX9_in_5 rfl (lv_at hl 0 rfl) ?_
    refine lv_iload_n hx hb dX9_in_6 rfl (lv_at hl 2 rfl) ?_
    refine lv_icmp_gt (tgt := 14) hx hb dX9_in_7 (by decide) (fun c7_1 => ?_) (fun c7_1 => ?_)
    · skip
      refine lv_iconst (v := 0) hx hb dX9_in_14 rfl ?_
      refine zRO.zret X hr (zb_nar _) hlocks ?_ dX9_in_15
      simp [m_in, zb, c2_0, c7_1]
    · skip
      refine lv_iconst (v := 1) hx hb dX9_in_10 rfl ?_
      refine lv_goto (tgt := 15) hx hb dX9_in_11 (by decide) ?_
      refine zRO.zret X hr (zb_nar _) hlocks ?_ dX9_in_15
      simp [m_in, zb, c2_0, c7_1]

abbrev rm_X9_isReach : Room := { frames := 1, cells := 0, slots := 0, locals := 22 }
set_option maxHeartbeats 4000000 in
set_option maxRecDepth 100000 in
theorem m_X9_isReach (l : Launch) (g : zG) (r : Int32) : zRO l yX9_isReach cX9_isReach 1 (Option.some Jvm.ClassFile.FieldType.boolean) rm_X9_isReach g [.int r] (fun _ => True) (.int (zb (m_in r 0 5))) := by
  refine zRO.start (by decide) (Nat.le_of_ble_eq_true rfl) ?_
  intro zp ze s zm zbl zmt zc ls X hr hlocks hP hl hS hA0
  have hx := X.1
  have hb := X.2.1
  have hml := X.2.2.1
  have hown := X.2.2.2.1
  have hls := hl.1
  have hl : lv_has ls 1 [(0, .int r)] := hl
  refine lv_iload_n hx hb dX9_isReach_0 rfl (lv_at hl 0 rfl) ?_
  refine lv_iconst (v := 0) hx hb dX9_isReach_1 rfl ?_
  refine lv_iconst (v := 5) hx hb dX9_isReach_2 rfl ?_
  refine zc_ro (zr_S (As := [.int r, .int 0, .int 5]) (rest := []) X (m_X9_in l g r 0 5) zL_RX9_36 trivial hS hA0 hls rfl (Nat.le_of_ble_eq_true rfl) ⟨rfl, rfl, Nat.le_of_ble_eq_true rfl, Nat.le_of_ble_eq_true rfl, (Nat.le_of_ble_eq_true rfl), (Nat.le_of_ble_eq_true rfl)⟩ dX9_isReach_3) ?_
  refine zRO.zret X hr (zb_nar _) hlocks ?_ dX9_isReach_6
  rfl

abbrev rm_X9_isMeadow : Room := { frames := 1, cells := 0, slots := 0, locals := 22 }
set_option maxHeartbeats 4000000 in
set_option maxRecDepth 100000 in
theorem m_X9_isMeadow (l : Launch) (g : zG) (r : Int32) : zRO l yX9_isMeadow cX9_isMeadow 1 (Option.some Jvm.ClassFile.FieldType.boolean) rm_X9_isMeadow g [.int r] (fun _ => True) (.int (zb (m_in r 0 4))) := by
  refine zRO.start (by decide) (Nat.le_of_ble_eq_true rfl) ?_
  intro zp ze s zm zbl zmt zc ls X hr hlocks hP hl hS hA0
  have hx := X.1
  have hb := X.2.1
  have hml := X.2.2.1
  have hown := X.2.2.2.1
  have hls := hl.1
  have hl : lv_has ls 1 [(0, .int r)] := hl
  refine lv_iload_n hx hb dX9_isMeadow_0 rfl (lv_at hl 0 rfl) ?_
  refine lv_iconst (v := 0) hx hb dX9_isMeadow_1 rfl ?_
  refine lv_iconst (v := 4) hx hb dX9_isMeadow_2 rfl ?_
  refine zc_ro (zr_S (As := [.int r, .int 0, .int 4]) (rest := []) X (m_X9_in l g r 0 4) zL_RX9_36 trivial hS hA0 hls rfl (Nat.le_of_ble_eq_true rfl) ⟨rfl, rfl, Nat.le_of_ble_eq_true rfl, Nat.le_of_ble_eq_true rfl, (Nat.le_of_ble_eq_true rfl), (Nat.le_of_ble_eq_true rfl)⟩ dX9_isMeadow_3) ?_
  refine zRO.zret X hr (zb_nar _) hlocks ?_ dX9_isMeadow_6
  rfl

abbrev rm_X9_bargeIn : Room := { frames := 0, cells := 0, slots := 0, locals := 0 }
set_option maxHeartbeats 4000000 in
set_option maxRecDepth 100000 in
theorem m_X9_bargeIn (l : Launch) (g : zG) (a : Nat) (f : Nat → Int32) (b w : Nat) (hbw : 26 + 7 * b + w < 89) : zRO l yX9_bargeIn cX9_bargeIn 3 (Option.some Jvm.ClassFile.FieldType.int) rm_X9_bargeIn g [.ref a, .int (nI b), .int (nI w)] (fun H => zH g ([[(a, .inl (g.2.1 0, 89, .inl f))]] : List va_W) H) (.int (m_b f b w)) := by
  refine zRO.start (by decide) (Nat.le_of_ble_eq_true rfl) ?_
  intro zp ze s zm zbl zmt zc ls X hr hlocks hP hl hS hA0
  have hx := X.1
  have hb := X.2.1
  have hml := X.2.2.1
  have hown := X.2.2.2.1
  have hls := hl.1
  have hl : lv_has ls 3 [(0, .ref a), (1, .int (nI b)), (2, .int (nI w))] := hl
  refine lv_aload_n hx hb dX9_bargeIn_0 rfl (lv_at hl 0 rfl) ?_
  refine lv_bipush (v := 26) hx hb dX9_bargeIn_1 (by decide) ?_
  refine lv_bipush (v := 7) hx hb dX9_bargeIn_3 (by decide) ?_
  refine lv_iload_n hx hb dX9_bargeIn_5 rfl (lv_at hl 1 rfl) ?_
  refine lv_imul hx hb dX9_bargeIn_6 ?_
  refine lv_iadd hx hb dX9_bargeIn_7 ?_
  refine lv_iload_n hx hb dX9_bargeIn_8 rfl (lv_at hl 2 rfl) ?_
  refine lv_iadd hx hb dX9_bargeIn_9 ?_
  refine z_iald X (j := (26 + (7 * b)) + w) (hP.at 0 0 rfl rfl) (zx_add (zx_add rfl (zx_mul rfl rfl)) rfl) (by omega) (by decide) dX9_bargeIn_10 ?_
  refine zRO.iret X hr hlocks ?_ dX9_bargeIn_11
  rfl

abbrev rm_X9_meadowIn : Room := { frames := 0, cells := 0, slots := 0, locals := 0 }
set_option maxHeartbeats 4000000 in
set_option maxRecDepth 100000 in
theorem m_X9_meadowIn (l : Launch) (g : zG) (a : Nat) (f : Nat → Int32) (m w : Nat) (hbw : 54 + 7 * m + w < 89) : zRO l yX9_meadowIn cX9_meadowIn 3 (Option.some Jvm.ClassFile.FieldType.int) rm_X9_meadowIn g [.ref a, .int (nI m), .int (nI w)] (fun H => zH g ([[(a, .inl (g.2.1 0, 89, .inl f))]] : List va_W) H) (.int (m_m f m w)) := by
  refine zRO.start (by decide) (Nat.le_of_ble_eq_true rfl) ?_
  intro zp ze s zm zbl zmt zc ls X hr hlocks hP hl hS hA0
  have hx := X.1
  have hb := X.2.1
  have hml := X.2.2.1
  have hown := X.2.2.2.1
  have hls := hl.1
  have hl : lv_has ls 3 [(0, .ref a), (1, .int (nI m)), (2, .int (nI w))] := hl
  refine lv_aload_n hx hb dX9_meadowIn_0 rfl (lv_at hl 0 rfl) ?_
  refine lv_bipush (v := 54) hx hb dX9_meadowIn_1 (by decide) ?_
  refine lv_bipush (v := 7) hx hb dX9_meadowIn_3 (by decide) ?_
  refine lv_iload_n hx hb dX9_meadowIn_5 rfl (lv_at hl 1 rfl) ?_
  refine lv_imul hx hb dX9_meadowIn_6 ?_
  refine lv_iadd hx hb dX9_meadowIn_7 ?_
  refine lv_iload_n hx hb dX9_meadowIn_8 rfl (lv_at hl 2 rfl) ?_
  refine lv_iadd hx hb dX9_meadowIn_9 ?_
  refine z_iald X (j := (54 + (7 * m)) + w) (hP.at 0 0 rfl rfl) (zx_add (zx_add rfl (zx_mul rfl rfl)) rfl) (by omega) (by decide) dX9_meadowIn_10 ?_
  refine zRO.iret X hr hlocks ?_ dX9_meadowIn_11
  rfl

abbrev rm_X9_runs : Room := { frames := 1, cells := 0, slots := 0, locals := 22 }
set_option maxHeartbeats 4000000 in
set_option maxRecDepth 100000 in
theorem m_X9_runs (l : Launch) (g : zG) (a : Nat) (f : Nat → Int32) (m : Nat) (hm : m < 5) : zRO l yX9_runs cX9_runs 2 (Option.some Jvm.ClassFile.FieldType.boolean) rm_X9_runs g [.ref a, .int (nI m)] (fun H => zH g ([[(a, .inl (g.2.1 0, 89, .inl f))]] : List va_W) H) (.int (zb (m_runs f m))) := by
  refine zRO.start (by decide) (Nat.le_of_ble_eq_true rfl) ?_
  intro zp ze s zm zbl zmt zc ls X hr hlocks hP hl hS hA0
  have hx := X.1
  have hb := X.2.1
  have hml := X.2.2.1
  have hown := X.2.2.2.1
  have hls := hl.1
  have hl : lv_has ls 2 [(0, .ref a), (1, .int (nI m))] := hl
  refine lv_aload_n hx hb dX9_runs_0 rfl (lv_at hl 0 rfl) ?_
  refine lv_iload_n hx hb dX9_runs_1 rfl (lv_at hl 1 rfl) ?_
  refine lv_iconst (v := 3) hx hb dX9_runs_2 rfl ?_
  refine zc_ro (zr_S (As := [.ref a, .int (nI m), .int 3]) (rest := []) X (m_X9_meadowIn l g a f m 3 (by omega)) zL_RX9_54 (zH.cons (va_P.one (hP.at 0 0 rfl rfl)) zH.nil) hS hA0 hls rfl (Nat.le_of_ble_eq_true rfl) ⟨rfl, rfl, Nat.le_of_ble_eq_true rfl, Nat.le_of_ble_eq_true rfl, (Nat.le_of_ble_eq_true rfl), (Nat.le_of_ble_eq_true rfl)⟩ dX9_runs_3) ?_
  refine lv_iconst (v := (-1)) hx hb dX9_runs_6 rfl ?_
  refine lv_icmp_eq (tgt := 35) hx hb dX9_runs_7 (by decide) (fun c7_0 => ?_) (fun c7_0 => ?_)
  · skip
    refine lv_iconst (v := 0) hx hb dX9_runs_35 rfl ?_
    refine zRO.zret X hr (zb_nar _) hlocks ?_ dX9_runs_36
    simp [m_runs, zb, c7_0]
  · skip
    refine lv_aload_n hx hb dX9_runs_10 rfl (lv_at hl 0 rfl) ?_
    refine lv_iconst (v := 4) hx hb dX9_runs_11 rfl ?_
    refine z_iald X (j := 4) (hP.at 0 0 rfl rfl) rfl (by omega) (by decide) dX9_runs_12 ?_
    refine lv_aload_n hx hb dX9_runs_13 rfl (lv_at hl 0 rfl) ?_
    refine lv_iload_n hx hb dX9_runs_14 rfl (lv_at hl 1 rfl) ?_
    refine lv_iconst (v := 3) hx hb dX9_runs_15 rfl ?_
    refine zc_ro (zr_S (As := [.ref a, .int (nI m), .int 3]) (rest := [.int (f 4)]) X (m_X9_meadowIn l g a f m 3 (by omega)) zL_RX9_54 (zH.cons (va_P.one (hP.at 0 0 rfl rfl)) zH.nil) hS hA0 hls rfl (Nat.le_of_ble_eq_true rfl) ⟨rfl, rfl, Nat.le_of_ble_eq_true rfl, Nat.le_of_ble_eq_true rfl, (Nat.le_of_ble_eq_true rfl), (Nat.le_of_ble_eq_true rfl)⟩ dX9_runs_16) ?_
    refine lv_aload_n hx hb dX9_runs_19 rfl (lv_at hl 0 rfl) ?_
    refine lv_iload_n hx hb dX9_runs_20 rfl (lv_at hl 1 rfl) ?_
    refine lv_iconst (v := 4) hx hb dX9_runs_21 rfl ?_
    refine zc_ro (zr_S (As := [.ref a, .int (nI m), .int 4]) (rest := [.int (m_m f m 3), .int (f 4)]) X (m_X9_meadowIn l g a f m 4 (by omega)) zL_RX9_54 (zH.cons (va_P.one (hP.at 0 0 rfl rfl)) zH.nil) hS hA0 hls rfl (Nat.le_of_ble_eq_true rfl) ⟨rfl, rfl, Nat.le_of_ble_eq_true rfl, Nat.le_of_ble_eq_true rfl, (Nat.le_of_ble_eq_true rfl), (Nat.le_of_ble_eq_true rfl)⟩ dX9_runs_22) ?_
    refine zc_ro (zr_S (As := [.int (f 4), .int (m_m f m 3), .int (m_m f m 4)]) (rest := []) X (m_X9_in l g (f 4) (m_m f m 3) (m_m f m 4)) zL_RX9_36 trivial hS hA0 hls rfl (Nat.le_of_ble_eq_true rfl) ⟨rfl, rfl, Nat.le_of_ble_eq_true rfl, Nat.le_of_ble_eq_true rfl, (Nat.le_of_ble_eq_true rfl), (Nat.le_of_ble_eq_true rfl)⟩ dX9_runs_25) ?_
    refine zb_ifeq (tgt := 35) hx hb dX9_runs_28 (by decide) (fun c28_1 => ?_) (fun c28_1 => ?_)
    · skip
      refine lv_iconst (v := 0) hx hb dX9_runs_35 rfl ?_
      refine zRO.zret X hr (zb_nar _) hlocks ?_ dX9_runs_36
      simp [m_runs, zb, c7_0, c28_1]
    · skip
      refine lv_iconst (v := 1) hx hb dX9_runs_31 rfl ?_
      refine lv_goto (tgt := 36) hx hb dX9_runs_32 (by decide) ?_
      refine zRO.zret X hr (zb_nar _) hlocks ?_ dX9_runs_36
      simp [m_runs, zb, c7_0, c28_1]

abbrev rm_X9_isStopped : Room := { frames := 1, cells := 0, slots := 0, locals := 22 }
set_option maxHeartbeats 4000000 in
set_option maxRecDepth 100000 in
theorem m_X9_isStopped (l : Launch) (g : zG) (a : Nat) (f : Nat → Int32) (m : Nat) (hm : m < 5) : zRO l yX9_isStopped cX9_isStopped 2 (Option.some Jvm.ClassFile.FieldType.boolean) rm_X9_isStopped g [.ref a, .int (nI m)] (fun H => zH g ([[(a, .inl (g.2.1 0, 89, .inl f))]] : List va_W) H) (.int (zb (m_stop f m))) := by
  refine zRO.start (by decide) (Nat.le_of_ble_eq_true rfl) ?_
  intro zp ze s zm zbl zmt zc ls X hr hlocks hP hl hS hA0
  have hx := X.1
  have hb := X.2.1
  have hml := X.2.2.1
  have hown := X.2.2.2.1
  have hls := hl.1
  have hl : lv_has ls 2 [(0, .ref a), (1, .int (nI m))] := hl
  refine lv_aload_n hx hb dX9_isStopped_0 rfl (lv_at hl 0 rfl) ?_
  refine lv_iload_n hx hb dX9_isStopped_1 rfl (lv_at hl 1 rfl) ?_
  refine lv_iconst (v := 5) hx hb dX9_isStopped_2 rfl ?_
  refine zc_ro (zr_S (As := [.ref a, .int (nI m), .int 5]) (rest := []) X (m_X9_meadowIn l g a f m 5 (by omega)) zL_RX9_54 (zH.cons (va_P.one (hP.at 0 0 rfl rfl)) zH.nil) hS hA0 hls rfl (Nat.le_of_ble_eq_true rfl) ⟨rfl, rfl, Nat.le_of_ble_eq_true rfl, Nat.le_of_ble_eq_true rfl, (Nat.le_of_ble_eq_true rfl), (Nat.le_of_ble_eq_true rfl)⟩ dX9_isStopped_3) ?_
  refine lv_aload_n hx hb dX9_isStopped_6 rfl (lv_at hl 0 rfl) ?_
  refine lv_iconst (v := 4) hx hb dX9_isStopped_7 rfl ?_
  refine z_iald X (j := 4) (hP.at 0 0 rfl rfl) rfl (by omega) (by decide) dX9_isStopped_8 ?_
  refine lv_icmp_lt (tgt := 16) hx hb dX9_isStopped_9 (by decide) (fun c9_0 => ?_) (fun c9_0 => ?_)
  · skip
    refine lv_iconst (v := 0) hx hb dX9_isStopped_16 rfl ?_
    refine zRO.zret X hr (zb_nar _) hlocks ?_ dX9_isStopped_17
    simp [m_stop, zb, c9_0]
  · skip
    refine lv_iconst (v := 1) hx hb dX9_isStopped_12 rfl ?_
    refine lv_goto (tgt := 17) hx hb dX9_isStopped_13 (by decide) ?_
    refine zRO.zret X hr (zb_nar _) hlocks ?_ dX9_isStopped_17
    simp [m_stop, zb, c9_0]

abbrev rm_X9_isTooWet : Room := { frames := 1, cells := 0, slots := 0, locals := 22 }
set_option maxHeartbeats 4000000 in
set_option maxRecDepth 100000 in
theorem m_X9_isTooWet (l : Launch) (g : zG) (a : Nat) (f : Nat → Int32) (m : Nat) (hm : m < 5) : zRO l yX9_isTooWet cX9_isTooWet 2 (Option.some Jvm.ClassFile.FieldType.boolean) rm_X9_isTooWet g [.ref a, .int (nI m)] (fun H => zH g ([[(a, .inl (g.2.1 0, 89, .inl f))]] : List va_W) H) (.int (zb (m_wet f m))) := by
  refine zRO.start (by decide) (Nat.le_of_ble_eq_true rfl) ?_
  intro zp ze s zm zbl zmt zc ls X hr hlocks hP hl hS hA0
  have hx := X.1
  have hb := X.2.1
  have hml := X.2.2.1
  have hown := X.2.2.2.1
  have hls := hl.1
  have hl : lv_has ls 2 [(0, .ref a), (1, .int (nI m))] := hl
  refine lv_aload_n hx hb dX9_isTooWet_0 rfl (lv_at hl 0 rfl) ?_
  refine lv_iload_n hx hb dX9_isTooWet_1 rfl (lv_at hl 1 rfl) ?_
  refine lv_iconst (v := 2) hx hb dX9_isTooWet_2 rfl ?_
  refine zc_ro (zr_S (As := [.ref a, .int (nI m), .int 2]) (rest := []) X (m_X9_meadowIn l g a f m 2 (by omega)) zL_RX9_54 (zH.cons (va_P.one (hP.at 0 0 rfl rfl)) zH.nil) hS hA0 hls rfl (Nat.le_of_ble_eq_true rfl) ⟨rfl, rfl, Nat.le_of_ble_eq_true rfl, Nat.le_of_ble_eq_true rfl, (Nat.le_of_ble_eq_true rfl), (Nat.le_of_ble_eq_true rfl)⟩ dX9_isTooWet_3) ?_
  refine lv_aload_n hx hb dX9_isTooWet_6 rfl (lv_at hl 0 rfl) ?_
  refine lv_iconst (v := 2) hx hb dX9_isTooWet_7 rfl ?_
  refine z_iald X (j := 2) (hP.at 0 0 rfl rfl) rfl (by omega) (by decide) dX9_isTooWet_8 ?_
  refine lv_icmp_lt (tgt := 16) hx hb dX9_isTooWet_9 (by decide) (fun c9_0 => ?_) (fun c9_0 => ?_)
  · skip
    refine lv_iconst (v := 0) hx hb dX9_isTooWet_16 rfl ?_
    refine zRO.zret X hr (zb_nar _) hlocks ?_ dX9_isTooWet_17
    simp [m_wet, zb, c9_0]
  · skip
    refine lv_iconst (v := 1) hx hb dX9_isTooWet_12 rfl ?_
    refine lv_goto (tgt := 17) hx hb dX9_isTooWet_13 (by decide) ?_
    refine zRO.zret X hr (zb_nar _) hlocks ?_ dX9_isTooWet_17
    simp [m_wet, zb, c9_0]

abbrev rm_X9_way : Room := { frames := 0, cells := 0, slots := 0, locals := 0 }
set_option maxHeartbeats 4000000 in
set_option maxRecDepth 100000 in
theorem m_X9_way (l : Launch) (g : zG) (a : Nat) (f : Nat → Int32) (x : Int32) : zRO l yX9_way cX9_way 3 (Option.some Jvm.ClassFile.FieldType.int) rm_X9_way g [.ref a, .int x] (fun H => zH g ([[(a, .inl (g.2.1 0, 89, .inl f))]] : List va_W) H) (.int (m_way f x)) := by
  refine zRO.start (by decide) (Nat.le_of_ble_eq_true rfl) ?_
  intro zp ze s zm zbl zmt zc ls X hr hlocks hP hl hS hA0
  have hx := X.1
  have hb := X.2.1
  have hml := X.2.2.1
  have hown := X.2.2.2.1
  have hls := hl.1
  have hl : lv_has ls 3 [(0, .ref a), (1, .int x)] := hl
  refine lv_aload_n hx hb dX9_way_0 rfl (lv_at hl 0 rfl) ?_
  refine lv_iconst (v := 5) hx hb dX9_way_1 rfl ?_
  refine z_iald X (j := 5) (hP.at 0 0 rfl rfl) rfl (by omega) (by decide) dX9_way_2 ?_
  refine lv_iload_n hx hb dX9_way_3 rfl (lv_at hl 1 rfl) ?_
  refine lv_isub hx hb dX9_way_4 ?_
  refine lv_istore_n (lv' := [(2, .int ((f 5) - x)), (0, .ref a), (1, .int x)]) hx hb dX9_way_5 rfl hl (by decide) rfl (fun ls hl => ?_)
  have hls := hl.1
  refine lv_iconst (v := 1) hx hb dX9_way_6 rfl ?_
  refine lv_iload_n hx hb dX9_way_7 rfl (lv_at hl 0 rfl) ?_
  refine lv_if_ge (tgt := 16) hx hb dX9_way_8 (by decide) (fun c8_0 => ?_) (fun c8_0 => ?_)
  · skip
    refine lv_iload_n hx hb dX9_way_16 rfl (lv_at hl 0 rfl) ?_
    refine lv_iadd hx hb dX9_way_17 ?_
    refine zRO.iret X hr hlocks ?_ dX9_way_18
    simp [m_way, c8_0]
  · skip
    refine lv_iload_n hx hb dX9_way_11 rfl (lv_at hl 0 rfl) ?_
    refine lv_ineg hx hb dX9_way_12 ?_
    refine lv_goto (tgt := 17) hx hb dX9_way_13 (by decide) ?_
    refine lv_iadd hx hb dX9_way_17 ?_
    refine zRO.iret X hr hlocks ?_ dX9_way_18
    simp [m_way, c8_0]

abbrev rm_X9_room : Room := { frames := 1, cells := 0, slots := 0, locals := 22 }
set_option maxHeartbeats 4000000 in
set_option maxRecDepth 100000 in
theorem m_X9_room (l : Launch) (g : zG) (a : Nat) (f : Nat → Int32) (m n : Nat) (hm : m < 5) (hn : n ≤ 4) (h6 : f 6 = nI n) : zRO l yX9_room cX9_room 4 (Option.some Jvm.ClassFile.FieldType.int) rm_X9_room g [.ref a, .int (nI m)] (fun H => zH g ([[(a, .inl (g.2.1 0, 89, .inl f))]] : List va_W) H) (.int (m_room f m n)) := by
  refine zRO.start (by decide) (Nat.le_of_ble_eq_true rfl) ?_
  intro zp ze s zm zbl zmt zc ls X hr hlocks hP hl hS hA0
  have hx := X.1
  have hb := X.2.1
  have hml := X.2.2.1
  have hown := X.2.2.2.1
  have hls := hl.1
  have hl : lv_has ls 4 [(0, .ref a), (1, .int (nI m))] := hl
  refine lv_aload_n hx hb dX9_room_0 rfl (lv_at hl 0 rfl) ?_
  refine lv_iload_n hx hb dX9_room_1 rfl (lv_at hl 1 rfl) ?_
  refine lv_iconst (v := 0) hx hb dX9_room_2 rfl ?_
  refine zc_ro (zr_S (As := [.ref a, .int (nI m), .int 0]) (rest := []) X (m_X9_meadowIn l g a f m 0 (by omega)) zL_RX9_54 (zH.cons (va_P.one (hP.at 0 0 rfl rfl)) zH.nil) hS hA0 hls rfl (Nat.le_of_ble_eq_true rfl) ⟨rfl, rfl, Nat.le_of_ble_eq_true rfl, Nat.le_of_ble_eq_true rfl, (Nat.le_of_ble_eq_true rfl), (Nat.le_of_ble_eq_true rfl)⟩ dX9_room_3) ?_
  refine lv_aload_n hx hb dX9_room_6 rfl (lv_at hl 0 rfl) ?_
  refine lv_iload_n hx hb dX9_room_7 rfl (lv_at hl 1 rfl) ?_
  refine lv_iconst (v := 1) hx hb dX9_room_8 rfl ?_
  refine zc_ro (zr_S (As := [.ref a, .int (nI m), .int 1]) (rest := [.int (m_m f m 0)]) X (m_X9_meadowIn l g a f m 1 (by omega)) zL_RX9_54 (zH.cons (va_P.one (hP.at 0 0 rfl rfl)) zH.nil) hS hA0 hls rfl (Nat.le_of_ble_eq_true rfl) ⟨rfl, rfl, Nat.le_of_ble_eq_true rfl, Nat.le_of_ble_eq_true rfl, (Nat.le_of_ble_eq_true rfl), (Nat.le_of_ble_eq_true rfl)⟩ dX9_room_9) ?_
  refine lv_isub hx hb dX9_room_12 ?_
  refine lv_istore_n (lv' := [(2, .int ((m_m f m 0) - (m_m f m 1))), (0, .ref a), (1, .int (nI m))]) hx hb dX9_room_13 rfl hl (by decide) rfl (fun ls hl => ?_)
  have hls := hl.1
  refine lv_iconst (v := 0) hx hb dX9_room_14 rfl ?_
  refine lv_istore_n (lv' := [(3, .int 0), (2, .int ((m_m f m 0) - (m_m f m 1))), (0, .ref a), (1, .int (nI m))]) hx hb dX9_room_15 rfl hl (by decide) rfl (fun ls hl => ?_)
  have hls := hl.1
  have hj16 : ∀ (zn b : Nat) (h_le : b ≤ n) (h_fu : n < b + zn) (its : Int32) (hits : its = m_roomL f m b) (ls : Array Slot), lv_has ls 4 [(0, .ref a), (1, .int (nI m)), (2, .int its), (3, .int (nI b))] → W zp l ze rm_X9_room s zm ([.ref a, .int (nI m)] : List Value).toArray zbl zmt zc s.heap [] 0 0 (MQ zbl (zQR (.int (m_room f m n))) ([.ref a, .int (nI m)] : List Value).toArray s 0 0 (fun _ => False)) (F0 zm 16 ls []) := by
    intro zn
    induction zn with
    | zero => intro b h_le h_fu; exact absurd h_fu (by omega)
    | succ zn ih16 =>
      intro b h_le h_fu its hits ls hl
      have hls := hl.1
      refine lv_iload_n hx hb dX9_room_16 rfl (lv_at hl 3 rfl) ?_
      refine lv_aload_n hx hb dX9_room_17 rfl (lv_at hl 0 rfl) ?_
      refine lv_bipush (v := 6) hx hb dX9_room_18 (by decide) ?_
      refine z_iald X (j := 6) (hP.at 0 0 rfl rfl) rfl (by omega) (by decide) dX9_room_20 ?_
      refine z_stk (b := [.int (nI n), .int (nI b)]) (by rw [show (f 6) = nI n from h6]) ?_
      refine lv_icmp_ge (tgt := 67) hx hb dX9_room_21 (by decide) (fun c21_0 => ?_) (fun c21_0 => ?_)
      · skip
        have kc21_0 := (zn_le (a := n) (b := b) rfl rfl (by omega) (by omega)).mp c21_0
        refine lv_iload_n hx hb dX9_room_67 rfl (lv_at hl 2 rfl) ?_
        refine lv_if_ge (tgt := 75) hx hb dX9_room_68 (by decide) (fun c68_1 => ?_) (fun c68_1 => ?_)
        · skip
          refine lv_iload_n hx hb dX9_room_75 rfl (lv_at hl 2 rfl) ?_
          refine zRO.iret X hr hlocks ?_ dX9_room_76
          have hbn : b = n := by omega
          subst hbn
          simp [m_room, ← hits, c21_0, c68_1]
        · skip
          refine lv_iconst (v := 0) hx hb dX9_room_71 rfl ?_
          refine lv_goto (tgt := 76) hx hb dX9_room_72 (by decide) ?_
          refine zRO.iret X hr hlocks ?_ dX9_room_76
          have hbn : b = n := by omega
          subst hbn
          simp [m_room, ← hits, c21_0, c68_1]
      · skip
        have kc21_0 := mt (zn_le (a := n) (b := b) rfl rfl (by omega) (by omega)).mpr c21_0
        refine lv_iload_n hx hb dX9_room_24 rfl (lv_at hl 2 rfl) ?_
        refine lv_aload_n hx hb dX9_room_25 rfl (lv_at hl 0 rfl) ?_
        refine lv_iload_n hx hb dX9_room_26 rfl (lv_at hl 3 rfl) ?_
        refine lv_iconst (v := 1) hx hb dX9_room_27 rfl ?_
        refine zc_ro (zr_S (As := [.ref a, .int (nI b), .int 1]) (rest := [.int its]) X (m_X9_bargeIn l g a f b 1 (by omega)) zL_RX9_58 (zH.cons (va_P.one (hP.at 0 0 rfl rfl)) zH.nil) hS hA0 hls rfl (Nat.le_of_ble_eq_true rfl) ⟨rfl, rfl, Nat.le_of_ble_eq_true rfl, Nat.le_of_ble_eq_true rfl, (Nat.le_of_ble_eq_true rfl), (Nat.le_of_ble_eq_true rfl)⟩ dX9_room_28) ?_
        refine lv_iconst (v := 1) hx hb dX9_room_31 rfl ?_
        refine lv_iconst (v := 2) hx hb dX9_room_32 rfl ?_
        refine zc_ro (zr_S (As := [.int (m_b f b 1), .int 1, .int 2]) (rest := [.int its]) X (m_X9_in l g (m_b f b 1) 1 2) zL_RX9_36 trivial hS hA0 hls rfl (Nat.le_of_ble_eq_true rfl) ⟨rfl, rfl, Nat.le_of_ble_eq_true rfl, Nat.le_of_ble_eq_true rfl, (Nat.le_of_ble_eq_true rfl), (Nat.le_of_ble_eq_true rfl)⟩ dX9_room_33) ?_
        refine zb_ifeq (tgt := 58) hx hb dX9_room_36 (by decide) (fun c36_2 => ?_) (fun c36_2 => ?_)
        · skip
          refine lv_iconst (v := 0) hx hb dX9_room_58 rfl ?_
          refine lv_isub hx hb dX9_room_59 ?_
          refine lv_istore_n (lv' := [(2, .int (its - 0)), (0, .ref a), (1, .int (nI m)), (3, .int (nI b))]) hx hb dX9_room_60 rfl hl (by decide) rfl (fun ls hl => ?_)
          have hls := hl.1
          refine lv_iinc (v := nI (b + 1)) (lv' := [(3, .int (nI (b + 1))), (2, .int (its - 0)), (0, .ref a), (1, .int (nI m))]) hx hb dX9_room_61 hl (k := 3) rfl (zx_add rfl rfl) (by decide) rfl (fun ls hl => ?_)
          have hls := hl.1
          refine lv_goto (tgt := 16) hx hb dX9_room_64 (by decide) ?_
          exact ih16 (b + 1) (by omega) (by omega) _ (by simp [m_roomL, hits, c21_0, c36_2]) _ (lv_sub hl [2, 3, 1, 0] rfl)
        · skip
          refine lv_aload_n hx hb dX9_room_39 rfl (lv_at hl 0 rfl) ?_
          refine lv_iload_n hx hb dX9_room_40 rfl (lv_at hl 3 rfl) ?_
          refine lv_iconst (v := 3) hx hb dX9_room_41 rfl ?_
          refine zc_ro (zr_S (As := [.ref a, .int (nI b), .int 3]) (rest := [.int its]) X (m_X9_bargeIn l g a f b 3 (by omega)) zL_RX9_58 (zH.cons (va_P.one (hP.at 0 0 rfl rfl)) zH.nil) hS hA0 hls rfl (Nat.le_of_ble_eq_true rfl) ⟨rfl, rfl, Nat.le_of_ble_eq_true rfl, Nat.le_of_ble_eq_true rfl, (Nat.le_of_ble_eq_true rfl), (Nat.le_of_ble_eq_true rfl)⟩ dX9_room_42) ?_
          refine lv_iload_n hx hb dX9_room_45 rfl (lv_at hl 1 rfl) ?_
          refine lv_icmp_ne (tgt := 58) hx hb dX9_room_46 (by decide) (fun c46_3 => ?_) (fun c46_3 => ?_)
          · skip
            refine lv_iconst (v := 0) hx hb dX9_room_58 rfl ?_
            refine lv_isub hx hb dX9_room_59 ?_
            refine lv_istore_n (lv' := [(2, .int (its - 0)), (0, .ref a), (1, .int (nI m)), (3, .int (nI b))]) hx hb dX9_room_60 rfl hl (by decide) rfl (fun ls hl => ?_)
            have hls := hl.1
            refine lv_iinc (v := nI (b + 1)) (lv' := [(3, .int (nI (b + 1))), (2, .int (its - 0)), (0, .ref a), (1, .int (nI m))]) hx hb dX9_room_61 hl (k := 3) rfl (zx_add rfl rfl) (by decide) rfl (fun ls hl => ?_)
            have hls := hl.1
            refine lv_goto (tgt := 16) hx hb dX9_room_64 (by decide) ?_
            exact ih16 (b + 1) (by omega) (by omega) _ (by simp [m_roomL, hits, c21_0, c36_2, c46_3]) _ (lv_sub hl [2, 3, 1, 0] rfl)
          · skip
            refine lv_aload_n hx hb dX9_room_49 rfl (lv_at hl 0 rfl) ?_
            refine lv_iload_n hx hb dX9_room_50 rfl (lv_at hl 3 rfl) ?_
            refine lv_iconst (v := 2) hx hb dX9_room_51 rfl ?_
            refine zc_ro (zr_S (As := [.ref a, .int (nI b), .int 2]) (rest := [.int its]) X (m_X9_bargeIn l g a f b 2 (by omega)) zL_RX9_58 (zH.cons (va_P.one (hP.at 0 0 rfl rfl)) zH.nil) hS hA0 hls rfl (Nat.le_of_ble_eq_true rfl) ⟨rfl, rfl, Nat.le_of_ble_eq_true rfl, Nat.le_of_ble_eq_true rfl, (Nat.le_of_ble_eq_true rfl), (Nat.le_of_ble_eq_true rfl)⟩ dX9_room_52) ?_
            refine lv_goto (tgt := 59) hx hb dX9_room_55 (by decide) ?_
            refine lv_isub hx hb dX9_room_59 ?_
            refine lv_istore_n (lv' := [(2, .int (its - (m_b f b 2))), (0, .ref a), (1, .int (nI m)), (3, .int (nI b))]) hx hb dX9_room_60 rfl hl (by decide) rfl (fun ls hl => ?_)
            have hls := hl.1
            refine lv_iinc (v := nI (b + 1)) (lv' := [(3, .int (nI (b + 1))), (2, .int (its - (m_b f b 2))), (0, .ref a), (1, .int (nI m))]) hx hb dX9_room_61 hl (k := 3) rfl (zx_add rfl rfl) (by decide) rfl (fun ls hl => ?_)
            have hls := hl.1
            refine lv_goto (tgt := 16) hx hb dX9_room_64 (by decide) ?_
            exact ih16 (b + 1) (by omega) (by omega) _ (by simp [m_roomL, hits, c21_0, c36_2, c46_3]) _ (lv_sub hl [2, 3, 1, 0] rfl)
  exact hj16 (n + 1) (0) (by omega) (by omega) _ rfl _ (lv_sub hl [2, 3, 1, 0] rfl)

abbrev rm_X9_bestOf : Room := { frames := 2, cells := 0, slots := 0, locals := 45 }
set_option maxHeartbeats 4000000 in
set_option maxRecDepth 100000 in
theorem m_X9_bestOf (l : Launch) (g : zG) (a : Nat) (f : Nat → Int32) (n : Nat) (hn : n ≤ 4) (h6 : f 6 = nI n)  : zRO l yX9_bestOf cX9_bestOf 4 (Option.some Jvm.ClassFile.FieldType.int) rm_X9_bestOf g [.ref a] (fun H => zH g ([[(a, .inl (g.2.1 0, 89, .inl f))]] : List va_W) H) (.int (m_best f n)) := by
  refine zRO.start (by decide) (Nat.le_of_ble_eq_true rfl) ?_
  intro zp ze s zm zbl zmt zc ls X hr hlocks hP hl hS hA0
  have hx := X.1
  have hb := X.2.1
  have hml := X.2.2.1
  have hown := X.2.2.2.1
  have hls := hl.1
  have hl : lv_has ls 4 [(0, .ref a)] := hl
  refine lv_iconst (v := (-1)) hx hb dX9_bestOf_0 rfl ?_
  refine lv_istore_n (lv' := [(1, .int (-1)), (0, .ref a)]) hx hb dX9_bestOf_1 rfl hl (by decide) rfl (fun ls hl => ?_)
  have hls := hl.1
  refine lv_iconst (v := 0) hx hb dX9_bestOf_2 rfl ?_
  refine lv_istore_n (lv' := [(2, .int 0), (1, .int (-1)), (0, .ref a)]) hx hb dX9_bestOf_3 rfl hl (by decide) rfl (fun ls hl => ?_)
  have hls := hl.1
  have hj4 : ∀ (zn m : Nat) (h_le : m ≤ 5) (h_fu : 5 < m + zn) (fo : Int32) (hfo : fo = m_bestL f n m) (ls : Array Slot), lv_has ls 4 [(0, .ref a), (1, .int fo), (2, .int (nI m))] → W zp l ze rm_X9_bestOf s zm ([.ref a] : List Value).toArray zbl zmt zc s.heap [] 0 0 (MQ zbl (zQR (.int (m_best f n))) ([.ref a] : List Value).toArray s 0 0 (fun _ => False)) (F0 zm 4 ls []) := by
    intro zn
    induction zn with
    | zero => intro m h_le h_fu; exact absurd h_fu (by omega)
    | succ zn ih4 =>
      intro m h_le h_fu fo hfo ls hl
      have hls := hl.1
      refine lv_iload_n hx hb dX9_bestOf_4 rfl (lv_at hl 2 rfl) ?_
      refine lv_iconst (v := 5) hx hb dX9_bestOf_5 rfl ?_
      refine lv_icmp_ge (tgt := 73) hx hb dX9_bestOf_6 (by decide) (fun c6_0 => ?_) (fun c6_0 => ?_)
      · skip
        have kc6_0 := (zn_le (a := 5) (b := m) rfl rfl (by omega) (by omega)).mp c6_0
        refine lv_iload_n hx hb dX9_bestOf_73 rfl (lv_at hl 1 rfl) ?_
        refine zRO.iret X hr hlocks ?_ dX9_bestOf_74
        have hm5 : m = 5 := by omega
        subst hm5
        exact hfo
      · skip
        have kc6_0 := mt (zn_le (a := 5) (b := m) rfl rfl (by omega) (by omega)).mpr c6_0
        refine lv_aload_n hx hb dX9_bestOf_9 rfl (lv_at hl 0 rfl) ?_
        refine lv_iload_n hx hb dX9_bestOf_10 rfl (lv_at hl 2 rfl) ?_
        refine zc_ro (zr_S (As := [.ref a, .int (nI m)]) (rest := []) X (m_X9_runs l g a f m (by omega)) zL_RX9_61 (zH.cons (va_P.one (hP.at 0 0 rfl rfl)) zH.nil) hS hA0 hls rfl (Nat.le_of_ble_eq_true rfl) ⟨rfl, rfl, Nat.le_of_ble_eq_true rfl, Nat.le_of_ble_eq_true rfl, (Nat.le_of_ble_eq_true rfl), (Nat.le_of_ble_eq_true rfl)⟩ dX9_bestOf_11) ?_
        refine zb_ifeq (tgt := 37) hx hb dX9_bestOf_14 (by decide) (fun c14_1 => ?_) (fun c14_1 => ?_)
        · skip
          refine lv_iconst (v := 0) hx hb dX9_bestOf_37 rfl ?_
          refine lv_istore_n (lv' := [(3, .int 0), (0, .ref a), (1, .int fo), (2, .int (nI m))]) hx hb dX9_bestOf_38 rfl hl (by decide) rfl (fun ls hl => ?_)
          have hls := hl.1
          refine lv_iload_n hx hb dX9_bestOf_39 rfl (lv_at hl 0 rfl) ?_
          refine lv_if_eq (tgt := 65) hx hb dX9_bestOf_40 (by decide) (fun c40_2 => ?_) (fun c40_2 => ?_)
          · skip
            refine lv_iload_n hx hb dX9_bestOf_65 rfl (lv_at hl 2 rfl) ?_
            refine lv_istore_n (lv' := [(1, .int fo), (3, .int 0), (0, .ref a), (2, .int (nI m))]) hx hb dX9_bestOf_66 rfl hl (by decide) rfl (fun ls hl => ?_)
            have hls := hl.1
            refine lv_iinc (v := nI (m + 1)) (lv' := [(2, .int (nI (m + 1))), (1, .int fo), (3, .int 0), (0, .ref a)]) hx hb dX9_bestOf_67 hl (k := 3) rfl (zx_add rfl rfl) (by decide) rfl (fun ls hl => ?_)
            have hls := hl.1
            refine lv_goto (tgt := 4) hx hb dX9_bestOf_70 (by decide) ?_
            exact ih4 (m + 1) (by omega) (by omega) _ (by simp [m_bestL, m_may, ← hfo, c6_0, c14_1, c40_2]) _ (lv_sub hl [3, 1, 0] rfl)
          · exact absurd c40_2 (by decide)
        · skip
          refine lv_aload_n hx hb dX9_bestOf_17 rfl (lv_at hl 0 rfl) ?_
          refine lv_iload_n hx hb dX9_bestOf_18 rfl (lv_at hl 2 rfl) ?_
          refine zc_ro (zr_S (As := [.ref a, .int (nI m)]) (rest := []) X (m_X9_isStopped l g a f m (by omega)) zL_RX9_65 (zH.cons (va_P.one (hP.at 0 0 rfl rfl)) zH.nil) hS hA0 hls rfl (Nat.le_of_ble_eq_true rfl) ⟨rfl, rfl, Nat.le_of_ble_eq_true rfl, Nat.le_of_ble_eq_true rfl, (Nat.le_of_ble_eq_true rfl), (Nat.le_of_ble_eq_true rfl)⟩ dX9_bestOf_19) ?_
          refine zb_ifne (tgt := 37) hx hb dX9_bestOf_22 (by decide) (fun c22_3 => ?_) (fun c22_3 => ?_)
          · skip
            refine lv_iconst (v := 0) hx hb dX9_bestOf_37 rfl ?_
            refine lv_istore_n (lv' := [(3, .int 0), (0, .ref a), (1, .int fo), (2, .int (nI m))]) hx hb dX9_bestOf_38 rfl hl (by decide) rfl (fun ls hl => ?_)
            have hls := hl.1
            refine lv_iload_n hx hb dX9_bestOf_39 rfl (lv_at hl 0 rfl) ?_
            refine lv_if_eq (tgt := 65) hx hb dX9_bestOf_40 (by decide) (fun c40_4 => ?_) (fun c40_4 => ?_)
            · skip
              refine lv_iload_n hx hb dX9_bestOf_65 rfl (lv_at hl 2 rfl) ?_
              refine lv_istore_n (lv' := [(1, .int fo), (3, .int 0), (0, .ref a), (2, .int (nI m))]) hx hb dX9_bestOf_66 rfl hl (by decide) rfl (fun ls hl => ?_)
              have hls := hl.1
              refine lv_iinc (v := nI (m + 1)) (lv' := [(2, .int (nI (m + 1))), (1, .int fo), (3, .int 0), (0, .ref a)]) hx hb dX9_bestOf_67 hl (k := 3) rfl (zx_add rfl rfl) (by decide) rfl (fun ls hl => ?_)
              have hls := hl.1
              refine lv_goto (tgt := 4) hx hb dX9_bestOf_70 (by decide) ?_
              exact ih4 (m + 1) (by omega) (by omega) _ (by simp [m_bestL, m_may, ← hfo, c6_0, c14_1, c22_3, c40_4]) _ (lv_sub hl [3, 1, 0] rfl)
            · exact absurd c40_4 (by decide)
          · skip
            refine lv_aload_n hx hb dX9_bestOf_25 rfl (lv_at hl 0 rfl) ?_
            refine lv_iload_n hx hb dX9_bestOf_26 rfl (lv_at hl 2 rfl) ?_
            refine zc_ro (zr_S (As := [.ref a, .int (nI m)]) (rest := []) X (m_X9_room l g a f m n (by omega) (by omega) (by first | exact h6c | exact h6 | (simp (disch := omega) only [upd_n]; first | exact h6c | exact h6))) zL_RX9_68 (zH.cons (va_P.one (hP.at 0 0 rfl rfl)) zH.nil) hS hA0 hls rfl (Nat.le_of_ble_eq_true rfl) ⟨rfl, rfl, Nat.le_of_ble_eq_true rfl, Nat.le_of_ble_eq_true rfl, (Nat.le_of_ble_eq_true rfl), (Nat.le_of_ble_eq_true rfl)⟩ dX9_bestOf_27) ?_
            refine lv_if_le (tgt := 37) hx hb dX9_bestOf_30 (by decide) (fun c30_5 => ?_) (fun c30_5 => ?_)
            · skip
              refine lv_iconst (v := 0) hx hb dX9_bestOf_37 rfl ?_
              refine lv_istore_n (lv' := [(3, .int 0), (0, .ref a), (1, .int fo), (2, .int (nI m))]) hx hb dX9_bestOf_38 rfl hl (by decide) rfl (fun ls hl => ?_)
              have hls := hl.1
              refine lv_iload_n hx hb dX9_bestOf_39 rfl (lv_at hl 0 rfl) ?_
              refine lv_if_eq (tgt := 65) hx hb dX9_bestOf_40 (by decide) (fun c40_6 => ?_) (fun c40_6 => ?_)
              · skip
                refine lv_iload_n hx hb dX9_bestOf_65 rfl (lv_at hl 2 rfl) ?_
                refine lv_istore_n (lv' := [(1, .int fo), (3, .int 0), (0, .ref a), (2, .int (nI m))]) hx hb dX9_bestOf_66 rfl hl (by decide) rfl (fun ls hl => ?_)
                have hls := hl.1
                refine lv_iinc (v := nI (m + 1)) (lv' := [(2, .int (nI (m + 1))), (1, .int fo), (3, .int 0), (0, .ref a)]) hx hb dX9_bestOf_67 hl (k := 3) rfl (zx_add rfl rfl) (by decide) rfl (fun ls hl => ?_)
                have hls := hl.1
                refine lv_goto (tgt := 4) hx hb dX9_bestOf_70 (by decide) ?_
                exact ih4 (m + 1) (by omega) (by omega) _ (by simp [m_bestL, m_may, ← hfo, c6_0, c14_1, c22_3, c30_5, c40_6]) _ (lv_sub hl [3, 1, 0] rfl)
              · exact absurd c40_6 (by decide)
            · skip
              refine lv_iconst (v := 1) hx hb dX9_bestOf_33 rfl ?_
              refine lv_goto (tgt := 38) hx hb dX9_bestOf_34 (by decide) ?_
              refine lv_istore_n (lv' := [(3, .int 1), (0, .ref a), (1, .int fo), (2, .int (nI m))]) hx hb dX9_bestOf_38 rfl hl (by decide) rfl (fun ls hl => ?_)
              have hls := hl.1
              refine lv_iload_n hx hb dX9_bestOf_39 rfl (lv_at hl 0 rfl) ?_
              refine lv_if_eq (tgt := 65) hx hb dX9_bestOf_40 (by decide) (fun c40_7 => ?_) (fun c40_7 => ?_)
              · exact absurd c40_7 (by decide)
              · skip
                refine lv_iload_n hx hb dX9_bestOf_43 rfl (lv_at hl 2 rfl) ?_
                refine lv_iconst (v := (-1)) hx hb dX9_bestOf_44 rfl ?_
                refine lv_icmp_eq (tgt := 61) hx hb dX9_bestOf_45 (by decide) (fun c45_8 => ?_) (fun c45_8 => ?_)
                · skip
                  refine lv_iload_n hx hb dX9_bestOf_61 rfl (lv_at hl 3 rfl) ?_
                  refine lv_goto (tgt := 66) hx hb dX9_bestOf_62 (by decide) ?_
                  refine lv_istore_n (lv' := [(1, .int (nI m)), (3, .int 1), (0, .ref a), (2, .int (nI m))]) hx hb dX9_bestOf_66 rfl hl (by decide) rfl (fun ls hl => ?_)
                  have hls := hl.1
                  refine lv_iinc (v := nI (m + 1)) (lv' := [(2, .int (nI (m + 1))), (1, .int (nI m)), (3, .int 1), (0, .ref a)]) hx hb dX9_bestOf_67 hl (k := 3) rfl (zx_add rfl rfl) (by decide) rfl (fun ls hl => ?_)
                  have hls := hl.1
                  refine lv_goto (tgt := 4) hx hb dX9_bestOf_70 (by decide) ?_
                  exact ih4 (m + 1) (by omega) (by omega) _ (by simp [m_bestL, m_may, ← hfo, c6_0, c14_1, c22_3, c30_5, c40_7, c45_8]) _ (lv_sub hl [3, 1, 0] rfl)
                · skip
                  refine lv_aload_n hx hb dX9_bestOf_48 rfl (lv_at hl 1 rfl) ?_
                  refine lv_iload_n hx hb dX9_bestOf_49 rfl (lv_at hl 3 rfl) ?_
                  refine zc_ro (zr_S (As := [.ref a, .int (nI m)]) (rest := []) X (m_X9_way l g a f (nI m)) zL_RX9_72 (zH.cons (va_P.one (hP.at 0 0 rfl rfl)) zH.nil) hS hA0 hls rfl (Nat.le_of_ble_eq_true rfl) ⟨rfl, rfl, Nat.le_of_ble_eq_true rfl, Nat.le_of_ble_eq_true rfl, (Nat.le_of_ble_eq_true rfl), (Nat.le_of_ble_eq_true rfl)⟩ dX9_bestOf_50) ?_
                  refine lv_aload_n hx hb dX9_bestOf_53 rfl (lv_at hl 1 rfl) ?_
                  refine lv_iload_n hx hb dX9_bestOf_54 rfl (lv_at hl 2 rfl) ?_
                  refine zc_ro (zr_S (As := [.ref a, .int fo]) (rest := [.int (m_way f (nI m))]) X (m_X9_way l g a f fo) zL_RX9_72 (zH.cons (va_P.one (hP.at 0 0 rfl rfl)) zH.nil) hS hA0 hls rfl (Nat.le_of_ble_eq_true rfl) ⟨rfl, rfl, Nat.le_of_ble_eq_true rfl, Nat.le_of_ble_eq_true rfl, (Nat.le_of_ble_eq_true rfl), (Nat.le_of_ble_eq_true rfl)⟩ dX9_bestOf_55) ?_
                  refine lv_icmp_ge (tgt := 65) hx hb dX9_bestOf_58 (by decide) (fun c58_9 => ?_) (fun c58_9 => ?_)
                  · skip
                    refine lv_iload_n hx hb dX9_bestOf_65 rfl (lv_at hl 2 rfl) ?_
                    refine lv_istore_n (lv' := [(1, .int fo), (3, .int 1), (0, .ref a), (2, .int (nI m))]) hx hb dX9_bestOf_66 rfl hl (by decide) rfl (fun ls hl => ?_)
                    have hls := hl.1
                    refine lv_iinc (v := nI (m + 1)) (lv' := [(2, .int (nI (m + 1))), (1, .int fo), (3, .int 1), (0, .ref a)]) hx hb dX9_bestOf_67 hl (k := 3) rfl (zx_add rfl rfl) (by decide) rfl (fun ls hl => ?_)
                    have hls := hl.1
                    refine lv_goto (tgt := 4) hx hb dX9_bestOf_70 (by decide) ?_
                    exact ih4 (m + 1) (by omega) (by omega) _ (by simp [m_bestL, m_may, ← hfo, c6_0, c14_1, c22_3, c30_5, c40_7, c45_8, c58_9]) _ (lv_sub hl [3, 1, 0] rfl)
                  · skip
                    refine lv_iload_n hx hb dX9_bestOf_61 rfl (lv_at hl 3 rfl) ?_
                    refine lv_goto (tgt := 66) hx hb dX9_bestOf_62 (by decide) ?_
                    refine lv_istore_n (lv' := [(1, .int (nI m)), (3, .int 1), (0, .ref a), (2, .int (nI m))]) hx hb dX9_bestOf_66 rfl hl (by decide) rfl (fun ls hl => ?_)
                    have hls := hl.1
                    refine lv_iinc (v := nI (m + 1)) (lv' := [(2, .int (nI (m + 1))), (1, .int (nI m)), (3, .int 1), (0, .ref a)]) hx hb dX9_bestOf_67 hl (k := 3) rfl (zx_add rfl rfl) (by decide) rfl (fun ls hl => ?_)
                    have hls := hl.1
                    refine lv_goto (tgt := 4) hx hb dX9_bestOf_70 (by decide) ?_
                    exact ih4 (m + 1) (by omega) (by omega) _ (by simp [m_bestL, m_may, ← hfo, c6_0, c14_1, c22_3, c30_5, c40_7, c45_8, c58_9]) _ (lv_sub hl [3, 1, 0] rfl)
  exact hj4 (5 + 1) (0) (by omega) (by omega) _ rfl _ (lv_sub hl [2, 1, 0] rfl)

abbrev rm_X9_isOpen : Room := { frames := 2, cells := 0, slots := 0, locals := 43 }
set_option maxHeartbeats 4000000 in
set_option maxRecDepth 100000 in
theorem m_X9_isOpen (l : Launch) (g : zG) (a : Nat) (f : Nat → Int32) (m : Nat) (hm : m < 5) : zRO l yX9_isOpen cX9_isOpen 2 (Option.some Jvm.ClassFile.FieldType.boolean) rm_X9_isOpen g [.ref a, .int (nI m)] (fun H => zH g ([[(a, .inl (g.2.1 0, 89, .inl f))]] : List va_W) H) (.int (zb (m_open f m))) := by
  refine zRO.start (by decide) (Nat.le_of_ble_eq_true rfl) ?_
  intro zp ze s zm zbl zmt zc ls X hr hlocks hP hl hS hA0
  have hx := X.1
  have hb := X.2.1
  have hml := X.2.2.1
  have hown := X.2.2.2.1
  have hls := hl.1
  have hl : lv_has ls 2 [(0, .ref a), (1, .int (nI m))] := hl
  refine lv_aload_n hx hb dX9_isOpen_0 rfl (lv_at hl 0 rfl) ?_
  refine lv_iload_n hx hb dX9_isOpen_1 rfl (lv_at hl 1 rfl) ?_
  refine zc_ro (zr_S (As := [.ref a, .int (nI m)]) (rest := []) X (m_X9_runs l g a f m (by omega)) zL_RX9_61 (zH.cons (va_P.one (hP.at 0 0 rfl rfl)) zH.nil) hS hA0 hls rfl (Nat.le_of_ble_eq_true rfl) ⟨rfl, rfl, Nat.le_of_ble_eq_true rfl, Nat.le_of_ble_eq_true rfl, (Nat.le_of_ble_eq_true rfl), (Nat.le_of_ble_eq_true rfl)⟩ dX9_isOpen_2) ?_
  refine zb_ifeq (tgt := 43) hx hb dX9_isOpen_5 (by decide) (fun c5_0 => ?_) (fun c5_0 => ?_)
  · skip
    refine lv_iconst (v := 0) hx hb dX9_isOpen_43 rfl ?_
    refine zRO.zret X hr (zb_nar _) hlocks ?_ dX9_isOpen_44
    simp [m_open, zb, c5_0]
  · skip
    refine lv_aload_n hx hb dX9_isOpen_8 rfl (lv_at hl 0 rfl) ?_
    refine lv_iload_n hx hb dX9_isOpen_9 rfl (lv_at hl 1 rfl) ?_
    refine zc_ro (zr_S (As := [.ref a, .int (nI m)]) (rest := []) X (m_X9_isStopped l g a f m (by omega)) zL_RX9_65 (zH.cons (va_P.one (hP.at 0 0 rfl rfl)) zH.nil) hS hA0 hls rfl (Nat.le_of_ble_eq_true rfl) ⟨rfl, rfl, Nat.le_of_ble_eq_true rfl, Nat.le_of_ble_eq_true rfl, (Nat.le_of_ble_eq_true rfl), (Nat.le_of_ble_eq_true rfl)⟩ dX9_isOpen_10) ?_
    refine zb_ifne (tgt := 43) hx hb dX9_isOpen_13 (by decide) (fun c13_1 => ?_) (fun c13_1 => ?_)
    · skip
      refine lv_iconst (v := 0) hx hb dX9_isOpen_43 rfl ?_
      refine zRO.zret X hr (zb_nar _) hlocks ?_ dX9_isOpen_44
      simp [m_open, zb, c5_0, c13_1]
    · skip
      refine lv_aload_n hx hb dX9_isOpen_16 rfl (lv_at hl 0 rfl) ?_
      refine lv_iload_n hx hb dX9_isOpen_17 rfl (lv_at hl 1 rfl) ?_
      refine zc_ro (zr_S (As := [.ref a, .int (nI m)]) (rest := []) X (m_X9_isTooWet l g a f m (by omega)) zL_RX9_75 (zH.cons (va_P.one (hP.at 0 0 rfl rfl)) zH.nil) hS hA0 hls rfl (Nat.le_of_ble_eq_true rfl) ⟨rfl, rfl, Nat.le_of_ble_eq_true rfl, Nat.le_of_ble_eq_true rfl, (Nat.le_of_ble_eq_true rfl), (Nat.le_of_ble_eq_true rfl)⟩ dX9_isOpen_18) ?_
      refine zb_ifne (tgt := 43) hx hb dX9_isOpen_21 (by decide) (fun c21_2 => ?_) (fun c21_2 => ?_)
      · skip
        refine lv_iconst (v := 0) hx hb dX9_isOpen_43 rfl ?_
        refine zRO.zret X hr (zb_nar _) hlocks ?_ dX9_isOpen_44
        simp [m_open, zb, c5_0, c13_1, c21_2]
      · skip
        refine lv_aload_n hx hb dX9_isOpen_24 rfl (lv_at hl 0 rfl) ?_
        refine lv_iload_n hx hb dX9_isOpen_25 rfl (lv_at hl 1 rfl) ?_
        refine lv_iconst (v := 0) hx hb dX9_isOpen_26 rfl ?_
        refine zc_ro (zr_S (As := [.ref a, .int (nI m), .int 0]) (rest := []) X (m_X9_meadowIn l g a f m 0 (by omega)) zL_RX9_54 (zH.cons (va_P.one (hP.at 0 0 rfl rfl)) zH.nil) hS hA0 hls rfl (Nat.le_of_ble_eq_true rfl) ⟨rfl, rfl, Nat.le_of_ble_eq_true rfl, Nat.le_of_ble_eq_true rfl, (Nat.le_of_ble_eq_true rfl), (Nat.le_of_ble_eq_true rfl)⟩ dX9_isOpen_27) ?_
        refine lv_aload_n hx hb dX9_isOpen_30 rfl (lv_at hl 0 rfl) ?_
        refine lv_iload_n hx hb dX9_isOpen_31 rfl (lv_at hl 1 rfl) ?_
        refine lv_iconst (v := 1) hx hb dX9_isOpen_32 rfl ?_
        refine zc_ro (zr_S (As := [.ref a, .int (nI m), .int 1]) (rest := [.int (m_m f m 0)]) X (m_X9_meadowIn l g a f m 1 (by omega)) zL_RX9_54 (zH.cons (va_P.one (hP.at 0 0 rfl rfl)) zH.nil) hS hA0 hls rfl (Nat.le_of_ble_eq_true rfl) ⟨rfl, rfl, Nat.le_of_ble_eq_true rfl, Nat.le_of_ble_eq_true rfl, (Nat.le_of_ble_eq_true rfl), (Nat.le_of_ble_eq_true rfl)⟩ dX9_isOpen_33) ?_
        refine lv_icmp_le (tgt := 43) hx hb dX9_isOpen_36 (by decide) (fun c36_3 => ?_) (fun c36_3 => ?_)
        · skip
          refine lv_iconst (v := 0) hx hb dX9_isOpen_43 rfl ?_
          refine zRO.zret X hr (zb_nar _) hlocks ?_ dX9_isOpen_44
          simp [m_open, zb, c5_0, c13_1, c21_2, c36_3]
        · skip
          refine lv_iconst (v := 1) hx hb dX9_isOpen_39 rfl ?_
          refine lv_goto (tgt := 44) hx hb dX9_isOpen_40 (by decide) ?_
          refine zRO.zret X hr (zb_nar _) hlocks ?_ dX9_isOpen_44
          simp [m_open, zb, c5_0, c13_1, c21_2, c36_3]

abbrev rm_X9_siltIn : Room := { frames := 0, cells := 0, slots := 0, locals := 0 }
set_option maxHeartbeats 4000000 in
set_option maxRecDepth 100000 in
theorem m_X9_siltIn (l : Launch) (g : zG) (a : Nat) (f : Nat → Int32) (r : Nat) (hr6 : r < 6) (h5 : f 5 = nI r) : zRO l yX9_siltIn cX9_siltIn 1 (Option.some Jvm.ClassFile.FieldType.int) rm_X9_siltIn g [.ref a] (fun H => zH g ([[(a, .inl (g.2.1 0, 89, .inl f))]] : List va_W) H) (.int (f (8 + 3 * r))) := by
  refine zRO.start (by decide) (Nat.le_of_ble_eq_true rfl) ?_
  intro zp ze s zm zbl zmt zc ls X hr hlocks hP hl hS hA0
  have hx := X.1
  have hb := X.2.1
  have hml := X.2.2.1
  have hown := X.2.2.2.1
  have hls := hl.1
  have hl : lv_has ls 1 [(0, .ref a)] := hl
  refine lv_aload_n hx hb dX9_siltIn_0 rfl (lv_at hl 0 rfl) ?_
  refine lv_bipush (v := 8) hx hb dX9_siltIn_1 (by decide) ?_
  refine lv_iconst (v := 3) hx hb dX9_siltIn_3 rfl ?_
  refine lv_aload_n hx hb dX9_siltIn_4 rfl (lv_at hl 0 rfl) ?_
  refine lv_iconst (v := 5) hx hb dX9_siltIn_5 rfl ?_
  refine z_iald X (j := 5) (hP.at 0 0 rfl rfl) rfl (by omega) (by decide) dX9_siltIn_6 ?_
  refine z_stk (b := [.int (nI r), .int 3, .int 8, .ref a]) (by rw [show (f 5) = nI r from h5]) ?_
  refine lv_imul hx hb dX9_siltIn_7 ?_
  refine lv_iadd hx hb dX9_siltIn_8 ?_
  refine z_iald X (j := 8 + (3 * r)) (hP.at 0 0 rfl rfl) (zx_add rfl (zx_mul rfl rfl)) (by omega) (by decide) dX9_siltIn_9 ?_
  refine zRO.iret X hr hlocks ?_ dX9_siltIn_10
  rfl

abbrev rm_X9_dries : Room := { frames := 1, cells := 0, slots := 0, locals := 22 }
set_option maxHeartbeats 4000000 in
set_option maxRecDepth 100000 in
theorem m_X9_dries (l : Launch) (g : zG) (a : Nat) (f : Nat → Int32) (m : Nat) (hm : m < 5) (sz : Nat) : zWR l yX9_dries cX9_dries 4 (Option.none : Option Jvm.ClassFile.FieldType) rm_X9_dries g [.ref a, .int (nI m)] ([[(a, .inl (g.2.1 0, 89, .inl f))]] : List va_W) 0 0 sz (fun zv gs' => zv = none ∧ gs' = [[(a, .inl (g.2.1 0, 89, .inl (m_dry f m)))]]) := by
  refine zWR.start (by decide) (Nat.le_of_ble_eq_true rfl) ?_
  intro zp ze s zm zbl zmt zc ls A X hr hlocks hinn hl hAe hW hS hA hA0
  have hx := X.1
  have hb := X.2.1
  have hml := X.2.2.1
  have hown := X.2.2.2.1
  have hls := hl.1
  have hl : lv_has ls 4 [(0, .ref a), (1, .int (nI m))] := hl
  refine lv_aload_n hx hb dX9_dries_0 rfl (lv_at hl 0 rfl) ?_
  refine lv_iload_n hx hb dX9_dries_1 rfl (lv_at hl 1 rfl) ?_
  refine lv_bipush (v := 6) hx hb dX9_dries_2 (by decide) ?_
  refine zc_ro (zr_S (As := [.ref a, .int (nI m), .int 6]) (rest := []) X (m_X9_meadowIn l g a f m 6 (by omega)) zL_RX9_54 (zH.cons (va_P.one (hW.H.at 0 0 rfl rfl)) zH.nil) hS hA0 hls rfl (Nat.le_of_ble_eq_true rfl) ⟨rfl, rfl, Nat.le_of_ble_eq_true rfl, Nat.le_of_ble_eq_true rfl, (Nat.le_of_ble_eq_true rfl), (Nat.le_of_ble_eq_true rfl)⟩ dX9_dries_4) ?_
  refine lv_istore_n (lv' := [(2, .int (m_m f m 6)), (0, .ref a), (1, .int (nI m))]) hx hb dX9_dries_7 rfl hl (by decide) rfl (fun ls hl => ?_)
  have hls := hl.1
  refine lv_iload_n hx hb dX9_dries_8 rfl (lv_at hl 0 rfl) ?_
  refine lv_if_le (tgt := 51) hx hb dX9_dries_9 (by decide) (fun c9_0 => ?_) (fun c9_0 => ?_)
  · skip
    refine zWR.vret X hAe hW hS hr hlocks ?_ (Nat.le_of_ble_eq_true rfl) (Nat.le_of_ble_eq_true rfl) dX9_dries_51
    refine ⟨rfl, ?_⟩
    simp only [m_dry, c9_0, if_true, if_false]
  · skip
    refine lv_aload_n hx hb dX9_dries_12 rfl (lv_at hl 1 rfl) ?_
    refine lv_iconst (v := 4) hx hb dX9_dries_13 rfl ?_
    refine z_iald X (j := 4) (hW.H.at 0 0 rfl rfl) rfl (by omega) (by decide) dX9_dries_14 ?_
    refine lv_iload_n hx hb dX9_dries_15 rfl (lv_at hl 0 rfl) ?_
    refine lv_irem hx hb dX9_dries_16 (fun h => c9_0 (by rw [h]; decide)) ?_
    refine lv_if_ne (tgt := 51) hx hb dX9_dries_17 (by decide) (fun c17_1 => ?_) (fun c17_1 => ?_)
    · skip
      refine zWR.vret X hAe hW hS hr hlocks ?_ (Nat.le_of_ble_eq_true rfl) (Nat.le_of_ble_eq_true rfl) dX9_dries_51
      refine ⟨rfl, ?_⟩
      simp only [m_dry, c9_0, c17_1, if_true, if_false]
    · skip
      refine lv_aload_n hx hb dX9_dries_20 rfl (lv_at hl 1 rfl) ?_
      refine lv_iload_n hx hb dX9_dries_21 rfl (lv_at hl 2 rfl) ?_
      refine lv_iconst (v := 2) hx hb dX9_dries_22 rfl ?_
      refine zc_ro (zr_S (As := [.ref a, .int (nI m), .int 2]) (rest := []) X (m_X9_meadowIn l g a f m 2 (by omega)) zL_RX9_54 (zH.cons (va_P.one (hW.H.at 0 0 rfl rfl)) zH.nil) hS hA0 hls rfl (Nat.le_of_ble_eq_true rfl) ⟨rfl, rfl, Nat.le_of_ble_eq_true rfl, Nat.le_of_ble_eq_true rfl, (Nat.le_of_ble_eq_true rfl), (Nat.le_of_ble_eq_true rfl)⟩ dX9_dries_23) ?_
      refine lv_aload_n hx hb dX9_dries_26 rfl (lv_at hl 1 rfl) ?_
      refine lv_iconst (v := 3) hx hb dX9_dries_27 rfl ?_
      refine z_iald X (j := 3) (hW.H.at 0 0 rfl rfl) rfl (by omega) (by decide) dX9_dries_28 ?_
      refine lv_isub hx hb dX9_dries_29 ?_
      refine lv_istore_n (lv' := [(3, .int ((m_m f m 2) - (f 3))), (2, .int (m_m f m 6)), (0, .ref a), (1, .int (nI m))]) hx hb dX9_dries_30 rfl hl (by decide) rfl (fun ls hl => ?_)
      have hls := hl.1
      refine lv_aload_n hx hb dX9_dries_31 rfl (lv_at hl 2 rfl) ?_
      refine lv_bipush (v := 54) hx hb dX9_dries_32 (by decide) ?_
      refine lv_bipush (v := 7) hx hb dX9_dries_34 (by decide) ?_
      refine lv_iload_n hx hb dX9_dries_36 rfl (lv_at hl 3 rfl) ?_
      refine lv_imul hx hb dX9_dries_37 ?_
      refine lv_iadd hx hb dX9_dries_38 ?_
      refine lv_iconst (v := 2) hx hb dX9_dries_39 rfl ?_
      refine lv_iadd hx hb dX9_dries_40 ?_
      refine lv_iload_n hx hb dX9_dries_41 rfl (lv_at hl 0 rfl) ?_
      refine lv_if_ge (tgt := 49) hx hb dX9_dries_42 (by decide) (fun c42_2 => ?_) (fun c42_2 => ?_)
      · skip
        refine lv_iload_n hx hb dX9_dries_49 rfl (lv_at hl 0 rfl) ?_
        refine z_iast X (j := (54 + (7 * m)) + 2) hW hS 0 0 rfl rfl (zx_add (zx_add rfl (zx_mul rfl rfl)) rfl) (by omega) (by decide) dX9_dries_50 (fun H locs hW hS => ?_)
        have hW : zW g A ([[(a, .inl (g.2.1 0, 89, .inl (upd f ((54 + (7 * m)) + 2) ((m_m f m 2) - (f 3)))))]] : List va_W) H := hW
        refine zWR.vret X hAe hW hS hr hlocks ?_ (Nat.le_of_ble_eq_true rfl) (Nat.le_of_ble_eq_true rfl) dX9_dries_51
        refine ⟨rfl, ?_⟩
        simp only [m_dry, c9_0, c17_1, c42_2, if_true, if_false]
      · skip
        refine lv_iconst (v := 0) hx hb dX9_dries_45 rfl ?_
        refine lv_goto (tgt := 50) hx hb dX9_dries_46 (by decide) ?_
        refine z_iast X (j := (54 + (7 * m)) + 2) hW hS 0 0 rfl rfl (zx_add (zx_add rfl (zx_mul rfl rfl)) rfl) (by omega) (by decide) dX9_dries_50 (fun H locs hW hS => ?_)
        have hW : zW g A ([[(a, .inl (g.2.1 0, 89, .inl (upd f ((54 + (7 * m)) + 2) 0)))]] : List va_W) H := hW
        refine zWR.vret X hAe hW hS hr hlocks ?_ (Nat.le_of_ble_eq_true rfl) (Nat.le_of_ble_eq_true rfl) dX9_dries_51
        refine ⟨rfl, ?_⟩
        simp only [m_dry, c9_0, c17_1, c42_2, if_true, if_false]

abbrev rm_X9_comesNearer : Room := { frames := 0, cells := 0, slots := 0, locals := 0 }
set_option maxHeartbeats 4000000 in
set_option maxRecDepth 100000 in
theorem m_X9_comesNearer (l : Launch) (g : zG) (a : Nat) (f : Nat → Int32) (b : Nat) (hb4 : b < 4) (sz : Nat) : zWR l yX9_comesNearer cX9_comesNearer 4 (Option.none : Option Jvm.ClassFile.FieldType) rm_X9_comesNearer g [.ref a, .int (nI b)] ([[(a, .inl (g.2.1 0, 89, .inl f))]] : List va_W) 0 0 sz (fun zv gs' => zv = none ∧ gs' = [[(a, .inl (g.2.1 0, 89, .inl (m_come f b)))]]) := by
  refine zWR.start (by decide) (Nat.le_of_ble_eq_true rfl) ?_
  intro zp ze s zm zbl zmt zc ls A X hr hlocks hinn hl hAe hW hS hA hA0
  have hx := X.1
  have hb := X.2.1
  have hml := X.2.2.1
  have hown := X.2.2.2.1
  have hls := hl.1
  have hl : lv_has ls 4 [(0, .ref a), (1, .int (nI b))] := hl
  refine lv_bipush (v := 26) hx hb dX9_comesNearer_0 (by decide) ?_
  refine lv_bipush (v := 7) hx hb dX9_comesNearer_2 (by decide) ?_
  refine lv_iload_n hx hb dX9_comesNearer_4 rfl (lv_at hl 1 rfl) ?_
  refine lv_imul hx hb dX9_comesNearer_5 ?_
  refine lv_iadd hx hb dX9_comesNearer_6 ?_
  refine lv_istore_n (lv' := [(2, .int (26 + (7 * (nI b)))), (0, .ref a), (1, .int (nI b))]) hx hb dX9_comesNearer_7 rfl hl (by decide) rfl (fun ls hl => ?_)
  have hls := hl.1
  refine lv_aload_n hx hb dX9_comesNearer_8 rfl (lv_at hl 1 rfl) ?_
  refine lv_iload_n hx hb dX9_comesNearer_9 rfl (lv_at hl 0 rfl) ?_
  refine lv_iconst (v := 4) hx hb dX9_comesNearer_10 rfl ?_
  refine lv_iadd hx hb dX9_comesNearer_11 ?_
  refine z_iald X (j := (26 + (7 * b)) + 4) (hW.H.at 0 0 rfl rfl) (zx_add (zx_add rfl (zx_mul rfl rfl)) rfl) (by omega) (by decide) dX9_comesNearer_12 ?_
  refine lv_if_le (tgt := 92) hx hb dX9_comesNearer_13 (by decide) (fun c13_0 => ?_) (fun c13_0 => ?_)
  · skip
    refine zWR.vret X hAe hW hS hr hlocks ?_ (Nat.le_of_ble_eq_true rfl) (Nat.le_of_ble_eq_true rfl) dX9_comesNearer_92
    refine ⟨rfl, ?_⟩
    simp only [m_come, m_b, if_pos c13_0]
  · skip
    refine lv_aload_n hx hb dX9_comesNearer_16 rfl (lv_at hl 1 rfl) ?_
    refine lv_iload_n hx hb dX9_comesNearer_17 rfl (lv_at hl 0 rfl) ?_
    refine lv_iconst (v := 4) hx hb dX9_comesNearer_18 rfl ?_
    refine lv_iadd hx hb dX9_comesNearer_19 ?_
    refine lv_dup2_11 hx hb dX9_comesNearer_20 rfl rfl ?_
    refine z_iald X (j := (26 + (7 * b)) + 4) (hW.H.at 0 0 rfl rfl) (zx_add (zx_add rfl (zx_mul rfl rfl)) rfl) (by omega) (by decide) dX9_comesNearer_21 ?_
    refine lv_iconst (v := 1) hx hb dX9_comesNearer_22 rfl ?_
    refine lv_isub hx hb dX9_comesNearer_23 ?_
    refine z_iast X (j := (26 + (7 * b)) + 4) hW hS 0 0 rfl rfl (zx_add (zx_add rfl (zx_mul rfl rfl)) rfl) (by omega) (by decide) dX9_comesNearer_24 (fun H locs hW hS => ?_)
    have hW : zW g A ([[(a, .inl (g.2.1 0, 89, .inl (upd f ((26 + (7 * b)) + 4) ((f ((26 + (7 * b)) + 4)) - 1))))]] : List va_W) H := hW
    refine lv_aload_n hx hb dX9_comesNearer_25 rfl (lv_at hl 1 rfl) ?_
    refine lv_iload_n hx hb dX9_comesNearer_26 rfl (lv_at hl 0 rfl) ?_
    refine lv_iconst (v := 1) hx hb dX9_comesNearer_27 rfl ?_
    refine lv_iadd hx hb dX9_comesNearer_28 ?_
    refine z_iald X (j := (26 + (7 * b)) + 1) (hW.H.at 0 0 rfl rfl) (zx_add (zx_add rfl (zx_mul rfl rfl)) rfl) (by omega) (by decide) dX9_comesNearer_29 ?_
    refine lv_iconst (v := 3) hx hb dX9_comesNearer_30 rfl ?_
    refine lv_icmp_ne (tgt := 38) hx hb dX9_comesNearer_31 (by decide) (fun c31_1 => ?_) (fun c31_1 => ?_)
    · skip
      refine lv_iconst (v := 0) hx hb dX9_comesNearer_38 rfl ?_
      refine lv_istore_n (lv' := [(3, .int 0), (2, .int (26 + (7 * (nI b)))), (0, .ref a), (1, .int (nI b))]) hx hb dX9_comesNearer_39 rfl hl (by decide) rfl (fun ls hl => ?_)
      have hls := hl.1
      refine lv_aload_n hx hb dX9_comesNearer_40 rfl (lv_at hl 2 rfl) ?_
      refine lv_iload_n hx hb dX9_comesNearer_41 rfl (lv_at hl 1 rfl) ?_
      refine lv_iconst (v := 1) hx hb dX9_comesNearer_42 rfl ?_
      refine lv_iadd hx hb dX9_comesNearer_43 ?_
      refine lv_aload_n hx hb dX9_comesNearer_44 rfl (lv_at hl 2 rfl) ?_
      refine lv_iload_n hx hb dX9_comesNearer_45 rfl (lv_at hl 1 rfl) ?_
      refine lv_iconst (v := 4) hx hb dX9_comesNearer_46 rfl ?_
      refine lv_iadd hx hb dX9_comesNearer_47 ?_
      refine z_iald X (j := (26 + (7 * b)) + 4) (hW.H.at 0 0 rfl rfl) (zx_add (zx_add rfl (zx_mul rfl rfl)) rfl) (by omega) (by decide) dX9_comesNearer_48 ?_
      refine lv_if_le (tgt := 60) hx hb dX9_comesNearer_49 (by decide) (fun c49_2 => ?_) (fun c49_2 => ?_)
      · skip
        refine lv_iload_n hx hb dX9_comesNearer_60 rfl (lv_at hl 0 rfl) ?_
        refine lv_if_eq (tgt := 68) hx hb dX9_comesNearer_61 (by decide) (fun c61_3 => ?_) (fun c61_3 => ?_)
        · skip
          refine lv_iconst (v := 2) hx hb dX9_comesNearer_68 rfl ?_
          refine z_iast X (j := (26 + (7 * b)) + 1) hW hS 0 0 rfl rfl (zx_add (zx_add rfl (zx_mul rfl rfl)) rfl) (by omega) (by decide) dX9_comesNearer_69 (fun H locs hW hS => ?_)
          have hW : zW g A ([[(a, .inl (g.2.1 0, 89, .inl (upd (upd f ((26 + (7 * b)) + 4) ((f ((26 + (7 * b)) + 4)) - 1)) ((26 + (7 * b)) + 1) 2)))]] : List va_W) H := hW
          refine lv_aload_n hx hb dX9_comesNearer_70 rfl (lv_at hl 2 rfl) ?_
          refine lv_iload_n hx hb dX9_comesNearer_71 rfl (lv_at hl 1 rfl) ?_
          refine lv_iconst (v := 3) hx hb dX9_comesNearer_72 rfl ?_
          refine lv_iadd hx hb dX9_comesNearer_73 ?_
          refine lv_aload_n hx hb dX9_comesNearer_74 rfl (lv_at hl 2 rfl) ?_
          refine lv_iload_n hx hb dX9_comesNearer_75 rfl (lv_at hl 1 rfl) ?_
          refine lv_iconst (v := 1) hx hb dX9_comesNearer_76 rfl ?_
          refine lv_iadd hx hb dX9_comesNearer_77 ?_
          refine z_iald X (j := (26 + (7 * b)) + 1) (hW.H.at 0 0 rfl rfl) (zx_add (zx_add rfl (zx_mul rfl rfl)) rfl) (by omega) (by decide) dX9_comesNearer_78 ?_
          refine lv_if_ne (tgt := 86) hx hb dX9_comesNearer_79 (by decide) (fun c79_4 => ?_) (fun c79_4 => ?_)
          · skip
            refine lv_aload_n hx hb dX9_comesNearer_86 rfl (lv_at hl 2 rfl) ?_
            refine lv_iload_n hx hb dX9_comesNearer_87 rfl (lv_at hl 1 rfl) ?_
            refine lv_iconst (v := 3) hx hb dX9_comesNearer_88 rfl ?_
            refine lv_iadd hx hb dX9_comesNearer_89 ?_
            refine z_iald X (j := (26 + (7 * b)) + 3) (hW.H.at 0 0 rfl rfl) (zx_add (zx_add rfl (zx_mul rfl rfl)) rfl) (by omega) (by decide) dX9_comesNearer_90 ?_
            refine z_iast X (j := (26 + (7 * b)) + 3) hW hS 0 0 rfl rfl (zx_add (zx_add rfl (zx_mul rfl rfl)) rfl) (by omega) (by decide) dX9_comesNearer_91 (fun H locs hW hS => ?_)
            have hW : zW g A ([[(a, .inl (g.2.1 0, 89, .inl (upd (upd (upd f ((26 + (7 * b)) + 4) ((f ((26 + (7 * b)) + 4)) - 1)) ((26 + (7 * b)) + 1) 2) ((26 + (7 * b)) + 3) ((upd (upd f ((26 + (7 * b)) + 4) ((f ((26 + (7 * b)) + 4)) - 1)) ((26 + (7 * b)) + 1) 2) ((26 + (7 * b)) + 3)))))]] : List va_W) H := hW
            refine zWR.vret X hAe hW hS hr hlocks ?_ (Nat.le_of_ble_eq_true rfl) (Nat.le_of_ble_eq_true rfl) dX9_comesNearer_92
            refine ⟨rfl, ?_⟩
            simp only [m_come, m_b, if_neg c13_0, if_neg c31_1, if_pos c49_2, if_pos c61_3, if_neg c79_4]
          · skip
            refine lv_iconst (v := (-1)) hx hb dX9_comesNearer_82 rfl ?_
            refine lv_goto (tgt := 91) hx hb dX9_comesNearer_83 (by decide) ?_
            refine z_iast X (j := (26 + (7 * b)) + 3) hW hS 0 0 rfl rfl (zx_add (zx_add rfl (zx_mul rfl rfl)) rfl) (by omega) (by decide) dX9_comesNearer_91 (fun H locs hW hS => ?_)
            have hW : zW g A ([[(a, .inl (g.2.1 0, 89, .inl (upd (upd (upd f ((26 + (7 * b)) + 4) ((f ((26 + (7 * b)) + 4)) - 1)) ((26 + (7 * b)) + 1) 2) ((26 + (7 * b)) + 3) (-1))))]] : List va_W) H := hW
            refine zWR.vret X hAe hW hS hr hlocks ?_ (Nat.le_of_ble_eq_true rfl) (Nat.le_of_ble_eq_true rfl) dX9_comesNearer_92
            refine ⟨rfl, ?_⟩
            simp only [m_come, m_b, if_neg c13_0, if_neg c31_1, if_pos c49_2, if_pos c61_3, if_pos c79_4]
        · exact absurd c61_3 (by decide)
      · skip
        refine lv_aload_n hx hb dX9_comesNearer_52 rfl (lv_at hl 2 rfl) ?_
        refine lv_iload_n hx hb dX9_comesNearer_53 rfl (lv_at hl 1 rfl) ?_
        refine lv_iconst (v := 1) hx hb dX9_comesNearer_54 rfl ?_
        refine lv_iadd hx hb dX9_comesNearer_55 ?_
        refine z_iald X (j := (26 + (7 * b)) + 1) (hW.H.at 0 0 rfl rfl) (zx_add (zx_add rfl (zx_mul rfl rfl)) rfl) (by omega) (by decide) dX9_comesNearer_56 ?_
        refine lv_goto (tgt := 69) hx hb dX9_comesNearer_57 (by decide) ?_
        refine z_iast X (j := (26 + (7 * b)) + 1) hW hS 0 0 rfl rfl (zx_add (zx_add rfl (zx_mul rfl rfl)) rfl) (by omega) (by decide) dX9_comesNearer_69 (fun H locs hW hS => ?_)
        have hW : zW g A ([[(a, .inl (g.2.1 0, 89, .inl (upd (upd f ((26 + (7 * b)) + 4) ((f ((26 + (7 * b)) + 4)) - 1)) ((26 + (7 * b)) + 1) ((upd f ((26 + (7 * b)) + 4) ((f ((26 + (7 * b)) + 4)) - 1)) ((26 + (7 * b)) + 1)))))]] : List va_W) H := hW
        refine lv_aload_n hx hb dX9_comesNearer_70 rfl (lv_at hl 2 rfl) ?_
        refine lv_iload_n hx hb dX9_comesNearer_71 rfl (lv_at hl 1 rfl) ?_
        refine lv_iconst (v := 3) hx hb dX9_comesNearer_72 rfl ?_
        refine lv_iadd hx hb dX9_comesNearer_73 ?_
        refine lv_aload_n hx hb dX9_comesNearer_74 rfl (lv_at hl 2 rfl) ?_
        refine lv_iload_n hx hb dX9_comesNearer_75 rfl (lv_at hl 1 rfl) ?_
        refine lv_iconst (v := 1) hx hb dX9_comesNearer_76 rfl ?_
        refine lv_iadd hx hb dX9_comesNearer_77 ?_
        refine z_iald X (j := (26 + (7 * b)) + 1) (hW.H.at 0 0 rfl rfl) (zx_add (zx_add rfl (zx_mul rfl rfl)) rfl) (by omega) (by decide) dX9_comesNearer_78 ?_
        refine lv_if_ne (tgt := 86) hx hb dX9_comesNearer_79 (by decide) (fun c79_5 => ?_) (fun c79_5 => ?_)
        · skip
          refine lv_aload_n hx hb dX9_comesNearer_86 rfl (lv_at hl 2 rfl) ?_
          refine lv_iload_n hx hb dX9_comesNearer_87 rfl (lv_at hl 1 rfl) ?_
          refine lv_iconst (v := 3) hx hb dX9_comesNearer_88 rfl ?_
          refine lv_iadd hx hb dX9_comesNearer_89 ?_
          refine z_iald X (j := (26 + (7 * b)) + 3) (hW.H.at 0 0 rfl rfl) (zx_add (zx_add rfl (zx_mul rfl rfl)) rfl) (by omega) (by decide) dX9_comesNearer_90 ?_
          refine z_iast X (j := (26 + (7 * b)) + 3) hW hS 0 0 rfl rfl (zx_add (zx_add rfl (zx_mul rfl rfl)) rfl) (by omega) (by decide) dX9_comesNearer_91 (fun H locs hW hS => ?_)
          have hW : zW g A ([[(a, .inl (g.2.1 0, 89, .inl (upd (upd (upd f ((26 + (7 * b)) + 4) ((f ((26 + (7 * b)) + 4)) - 1)) ((26 + (7 * b)) + 1) ((upd f ((26 + (7 * b)) + 4) ((f ((26 + (7 * b)) + 4)) - 1)) ((26 + (7 * b)) + 1))) ((26 + (7 * b)) + 3) ((upd (upd f ((26 + (7 * b)) + 4) ((f ((26 + (7 * b)) + 4)) - 1)) ((26 + (7 * b)) + 1) ((upd f ((26 + (7 * b)) + 4) ((f ((26 + (7 * b)) + 4)) - 1)) ((26 + (7 * b)) + 1))) ((26 + (7 * b)) + 3)))))]] : List va_W) H := hW
          refine zWR.vret X hAe hW hS hr hlocks ?_ (Nat.le_of_ble_eq_true rfl) (Nat.le_of_ble_eq_true rfl) dX9_comesNearer_92
          refine ⟨rfl, ?_⟩
          simp only [m_come, m_b, if_neg c13_0, if_neg c31_1, if_neg c49_2, if_neg c79_5]
        · skip
          refine lv_iconst (v := (-1)) hx hb dX9_comesNearer_82 rfl ?_
          refine lv_goto (tgt := 91) hx hb dX9_comesNearer_83 (by decide) ?_
          refine z_iast X (j := (26 + (7 * b)) + 3) hW hS 0 0 rfl rfl (zx_add (zx_add rfl (zx_mul rfl rfl)) rfl) (by omega) (by decide) dX9_comesNearer_91 (fun H locs hW hS => ?_)
          have hW : zW g A ([[(a, .inl (g.2.1 0, 89, .inl (upd (upd (upd f ((26 + (7 * b)) + 4) ((f ((26 + (7 * b)) + 4)) - 1)) ((26 + (7 * b)) + 1) ((upd f ((26 + (7 * b)) + 4) ((f ((26 + (7 * b)) + 4)) - 1)) ((26 + (7 * b)) + 1))) ((26 + (7 * b)) + 3) (-1))))]] : List va_W) H := hW
          refine zWR.vret X hAe hW hS hr hlocks ?_ (Nat.le_of_ble_eq_true rfl) (Nat.le_of_ble_eq_true rfl) dX9_comesNearer_92
          refine ⟨rfl, ?_⟩
          simp only [m_come, m_b, if_neg c13_0, if_neg c31_1, if_neg c49_2, if_pos c79_5]
    · skip
      refine lv_iconst (v := 1) hx hb dX9_comesNearer_34 rfl ?_
      refine lv_goto (tgt := 39) hx hb dX9_comesNearer_35 (by decide) ?_
      refine lv_istore_n (lv' := [(3, .int 1), (2, .int (26 + (7 * (nI b)))), (0, .ref a), (1, .int (nI b))]) hx hb dX9_comesNearer_39 rfl hl (by decide) rfl (fun ls hl => ?_)
      have hls := hl.1
      refine lv_aload_n hx hb dX9_comesNearer_40 rfl (lv_at hl 2 rfl) ?_
      refine lv_iload_n hx hb dX9_comesNearer_41 rfl (lv_at hl 1 rfl) ?_
      refine lv_iconst (v := 1) hx hb dX9_comesNearer_42 rfl ?_
      refine lv_iadd hx hb dX9_comesNearer_43 ?_
      refine lv_aload_n hx hb dX9_comesNearer_44 rfl (lv_at hl 2 rfl) ?_
      refine lv_iload_n hx hb dX9_comesNearer_45 rfl (lv_at hl 1 rfl) ?_
      refine lv_iconst (v := 4) hx hb dX9_comesNearer_46 rfl ?_
      refine lv_iadd hx hb dX9_comesNearer_47 ?_
      refine z_iald X (j := (26 + (7 * b)) + 4) (hW.H.at 0 0 rfl rfl) (zx_add (zx_add rfl (zx_mul rfl rfl)) rfl) (by omega) (by decide) dX9_comesNearer_48 ?_
      refine lv_if_le (tgt := 60) hx hb dX9_comesNearer_49 (by decide) (fun c49_6 => ?_) (fun c49_6 => ?_)
      · skip
        refine lv_iload_n hx hb dX9_comesNearer_60 rfl (lv_at hl 0 rfl) ?_
        refine lv_if_eq (tgt := 68) hx hb dX9_comesNearer_61 (by decide) (fun c61_7 => ?_) (fun c61_7 => ?_)
        · exact absurd c61_7 (by decide)
        · skip
          refine lv_iconst (v := 0) hx hb dX9_comesNearer_64 rfl ?_
          refine lv_goto (tgt := 69) hx hb dX9_comesNearer_65 (by decide) ?_
          refine z_iast X (j := (26 + (7 * b)) + 1) hW hS 0 0 rfl rfl (zx_add (zx_add rfl (zx_mul rfl rfl)) rfl) (by omega) (by decide) dX9_comesNearer_69 (fun H locs hW hS => ?_)
          have hW : zW g A ([[(a, .inl (g.2.1 0, 89, .inl (upd (upd f ((26 + (7 * b)) + 4) ((f ((26 + (7 * b)) + 4)) - 1)) ((26 + (7 * b)) + 1) 0)))]] : List va_W) H := hW
          refine lv_aload_n hx hb dX9_comesNearer_70 rfl (lv_at hl 2 rfl) ?_
          refine lv_iload_n hx hb dX9_comesNearer_71 rfl (lv_at hl 1 rfl) ?_
          refine lv_iconst (v := 3) hx hb dX9_comesNearer_72 rfl ?_
          refine lv_iadd hx hb dX9_comesNearer_73 ?_
          refine lv_aload_n hx hb dX9_comesNearer_74 rfl (lv_at hl 2 rfl) ?_
          refine lv_iload_n hx hb dX9_comesNearer_75 rfl (lv_at hl 1 rfl) ?_
          refine lv_iconst (v := 1) hx hb dX9_comesNearer_76 rfl ?_
          refine lv_iadd hx hb dX9_comesNearer_77 ?_
          refine z_iald X (j := (26 + (7 * b)) + 1) (hW.H.at 0 0 rfl rfl) (zx_add (zx_add rfl (zx_mul rfl rfl)) rfl) (by omega) (by decide) dX9_comesNearer_78 ?_
          refine lv_if_ne (tgt := 86) hx hb dX9_comesNearer_79 (by decide) (fun c79_8 => ?_) (fun c79_8 => ?_)
          · skip
            refine lv_aload_n hx hb dX9_comesNearer_86 rfl (lv_at hl 2 rfl) ?_
            refine lv_iload_n hx hb dX9_comesNearer_87 rfl (lv_at hl 1 rfl) ?_
            refine lv_iconst (v := 3) hx hb dX9_comesNearer_88 rfl ?_
            refine lv_iadd hx hb dX9_comesNearer_89 ?_
            refine z_iald X (j := (26 + (7 * b)) + 3) (hW.H.at 0 0 rfl rfl) (zx_add (zx_add rfl (zx_mul rfl rfl)) rfl) (by omega) (by decide) dX9_comesNearer_90 ?_
            refine z_iast X (j := (26 + (7 * b)) + 3) hW hS 0 0 rfl rfl (zx_add (zx_add rfl (zx_mul rfl rfl)) rfl) (by omega) (by decide) dX9_comesNearer_91 (fun H locs hW hS => ?_)
            have hW : zW g A ([[(a, .inl (g.2.1 0, 89, .inl (upd (upd (upd f ((26 + (7 * b)) + 4) ((f ((26 + (7 * b)) + 4)) - 1)) ((26 + (7 * b)) + 1) 0) ((26 + (7 * b)) + 3) ((upd (upd f ((26 + (7 * b)) + 4) ((f ((26 + (7 * b)) + 4)) - 1)) ((26 + (7 * b)) + 1) 0) ((26 + (7 * b)) + 3)))))]] : List va_W) H := hW
            refine zWR.vret X hAe hW hS hr hlocks ?_ (Nat.le_of_ble_eq_true rfl) (Nat.le_of_ble_eq_true rfl) dX9_comesNearer_92
            refine ⟨rfl, ?_⟩
            simp only [m_come, m_b, if_neg c13_0, if_pos c31_1, if_pos c49_6, if_neg c61_7, if_neg c79_8]
          · skip
            refine lv_iconst (v := (-1)) hx hb dX9_comesNearer_82 rfl ?_
            refine lv_goto (tgt := 91) hx hb dX9_comesNearer_83 (by decide) ?_
            refine z_iast X (j := (26 + (7 * b)) + 3) hW hS 0 0 rfl rfl (zx_add (zx_add rfl (zx_mul rfl rfl)) rfl) (by omega) (by decide) dX9_comesNearer_91 (fun H locs hW hS => ?_)
            have hW : zW g A ([[(a, .inl (g.2.1 0, 89, .inl (upd (upd (upd f ((26 + (7 * b)) + 4) ((f ((26 + (7 * b)) + 4)) - 1)) ((26 + (7 * b)) + 1) 0) ((26 + (7 * b)) + 3) (-1))))]] : List va_W) H := hW
            refine zWR.vret X hAe hW hS hr hlocks ?_ (Nat.le_of_ble_eq_true rfl) (Nat.le_of_ble_eq_true rfl) dX9_comesNearer_92
            refine ⟨rfl, ?_⟩
            simp only [m_come, m_b, if_neg c13_0, if_pos c31_1, if_pos c49_6, if_neg c61_7, if_pos c79_8]
      · skip
        refine lv_aload_n hx hb dX9_comesNearer_52 rfl (lv_at hl 2 rfl) ?_
        refine lv_iload_n hx hb dX9_comesNearer_53 rfl (lv_at hl 1 rfl) ?_
        refine lv_iconst (v := 1) hx hb dX9_comesNearer_54 rfl ?_
        refine lv_iadd hx hb dX9_comesNearer_55 ?_
        refine z_iald X (j := (26 + (7 * b)) + 1) (hW.H.at 0 0 rfl rfl) (zx_add (zx_add rfl (zx_mul rfl rfl)) rfl) (by omega) (by decide) dX9_comesNearer_56 ?_
        refine lv_goto (tgt := 69) hx hb dX9_comesNearer_57 (by decide) ?_
        refine z_iast X (j := (26 + (7 * b)) + 1) hW hS 0 0 rfl rfl (zx_add (zx_add rfl (zx_mul rfl rfl)) rfl) (by omega) (by decide) dX9_comesNearer_69 (fun H locs hW hS => ?_)
        have hW : zW g A ([[(a, .inl (g.2.1 0, 89, .inl (upd (upd f ((26 + (7 * b)) + 4) ((f ((26 + (7 * b)) + 4)) - 1)) ((26 + (7 * b)) + 1) ((upd f ((26 + (7 * b)) + 4) ((f ((26 + (7 * b)) + 4)) - 1)) ((26 + (7 * b)) + 1)))))]] : List va_W) H := hW
        refine lv_aload_n hx hb dX9_comesNearer_70 rfl (lv_at hl 2 rfl) ?_
        refine lv_iload_n hx hb dX9_comesNearer_71 rfl (lv_at hl 1 rfl) ?_
        refine lv_iconst (v := 3) hx hb dX9_comesNearer_72 rfl ?_
        refine lv_iadd hx hb dX9_comesNearer_73 ?_
        refine lv_aload_n hx hb dX9_comesNearer_74 rfl (lv_at hl 2 rfl) ?_
        refine lv_iload_n hx hb dX9_comesNearer_75 rfl (lv_at hl 1 rfl) ?_
        refine lv_iconst (v := 1) hx hb dX9_comesNearer_76 rfl ?_
        refine lv_iadd hx hb dX9_comesNearer_77 ?_
        refine z_iald X (j := (26 + (7 * b)) + 1) (hW.H.at 0 0 rfl rfl) (zx_add (zx_add rfl (zx_mul rfl rfl)) rfl) (by omega) (by decide) dX9_comesNearer_78 ?_
        refine lv_if_ne (tgt := 86) hx hb dX9_comesNearer_79 (by decide) (fun c79_9 => ?_) (fun c79_9 => ?_)
        · skip
          refine lv_aload_n hx hb dX9_comesNearer_86 rfl (lv_at hl 2 rfl) ?_
          refine lv_iload_n hx hb dX9_comesNearer_87 rfl (lv_at hl 1 rfl) ?_
          refine lv_iconst (v := 3) hx hb dX9_comesNearer_88 rfl ?_
          refine lv_iadd hx hb dX9_comesNearer_89 ?_
          refine z_iald X (j := (26 + (7 * b)) + 3) (hW.H.at 0 0 rfl rfl) (zx_add (zx_add rfl (zx_mul rfl rfl)) rfl) (by omega) (by decide) dX9_comesNearer_90 ?_
          refine z_iast X (j := (26 + (7 * b)) + 3) hW hS 0 0 rfl rfl (zx_add (zx_add rfl (zx_mul rfl rfl)) rfl) (by omega) (by decide) dX9_comesNearer_91 (fun H locs hW hS => ?_)
          have hW : zW g A ([[(a, .inl (g.2.1 0, 89, .inl (upd (upd (upd f ((26 + (7 * b)) + 4) ((f ((26 + (7 * b)) + 4)) - 1)) ((26 + (7 * b)) + 1) ((upd f ((26 + (7 * b)) + 4) ((f ((26 + (7 * b)) + 4)) - 1)) ((26 + (7 * b)) + 1))) ((26 + (7 * b)) + 3) ((upd (upd f ((26 + (7 * b)) + 4) ((f ((26 + (7 * b)) + 4)) - 1)) ((26 + (7 * b)) + 1) ((upd f ((26 + (7 * b)) + 4) ((f ((26 + (7 * b)) + 4)) - 1)) ((26 + (7 * b)) + 1))) ((26 + (7 * b)) + 3)))))]] : List va_W) H := hW
          refine zWR.vret X hAe hW hS hr hlocks ?_ (Nat.le_of_ble_eq_true rfl) (Nat.le_of_ble_eq_true rfl) dX9_comesNearer_92
          refine ⟨rfl, ?_⟩
          simp only [m_come, m_b, if_neg c13_0, if_pos c31_1, if_neg c49_6, if_neg c79_9]
        · skip
          refine lv_iconst (v := (-1)) hx hb dX9_comesNearer_82 rfl ?_
          refine lv_goto (tgt := 91) hx hb dX9_comesNearer_83 (by decide) ?_
          refine z_iast X (j := (26 + (7 * b)) + 3) hW hS 0 0 rfl rfl (zx_add (zx_add rfl (zx_mul rfl rfl)) rfl) (by omega) (by decide) dX9_comesNearer_91 (fun H locs hW hS => ?_)
          have hW : zW g A ([[(a, .inl (g.2.1 0, 89, .inl (upd (upd (upd f ((26 + (7 * b)) + 4) ((f ((26 + (7 * b)) + 4)) - 1)) ((26 + (7 * b)) + 1) ((upd f ((26 + (7 * b)) + 4) ((f ((26 + (7 * b)) + 4)) - 1)) ((26 + (7 * b)) + 1))) ((26 + (7 * b)) + 3) (-1))))]] : List va_W) H := hW
          refine zWR.vret X hAe hW hS hr hlocks ?_ (Nat.le_of_ble_eq_true rfl) (Nat.le_of_ble_eq_true rfl) dX9_comesNearer_92
          refine ⟨rfl, ?_⟩
          simp only [m_come, m_b, if_neg c13_0, if_pos c31_1, if_neg c49_6, if_pos c79_9]

abbrev rm_X9_lays : Room := { frames := 3, cells := 0, slots := 0, locals := 64 }
set_option maxHeartbeats 4000000 in
set_option maxRecDepth 100000 in
theorem m_X9_lays (l : Launch) (g : zG) (a : Nat) (f : Nat → Int32) (b mm : Nat) (done : Int32) (hb4 : b < 4) (hmm : mm < 5) (hg : m_b f b 3 = nI mm) (sz : Nat) : zWR l yX9_lays cX9_lays 8 (Option.some Jvm.ClassFile.FieldType.int) rm_X9_lays g [.ref a, .int (nI b), .int done] ([[(a, .inl (g.2.1 0, 89, .inl f))]] : List va_W) 0 0 sz (fun zv gs' => zv = some (.int (m_don done mm (m_lds f b mm done))) ∧ gs' = [[(a, .inl (g.2.1 0, 89, .inl (m_lay f b mm (m_lds f b mm done))))]]) := by
  refine zWR.start (by decide) (Nat.le_of_ble_eq_true rfl) ?_
  intro zp ze s zm zbl zmt zc ls A X hr hlocks hinn hl hAe hW hS hA hA0
  have hx := X.1
  have hb := X.2.1
  have hml := X.2.2.1
  have hown := X.2.2.2.1
  have hls := hl.1
  have hl : lv_has ls 8 [(0, .ref a), (1, .int (nI b)), (2, .int done)] := hl
  refine lv_bipush (v := 26) hx hb dX9_lays_0 (by decide) ?_
  refine lv_bipush (v := 7) hx hb dX9_lays_2 (by decide) ?_
  refine lv_iload_n hx hb dX9_lays_4 rfl (lv_at hl 1 rfl) ?_
  refine lv_imul hx hb dX9_lays_5 ?_
  refine lv_iadd hx hb dX9_lays_6 ?_
  refine lv_istore_n (lv' := [(3, .int (26 + (7 * (nI b)))), (0, .ref a), (1, .int (nI b)), (2, .int done)]) hx hb dX9_lays_7 rfl hl (by decide) rfl (fun ls hl => ?_)
  have hls := hl.1
  refine lv_aload_n hx hb dX9_lays_8 rfl (lv_at hl 1 rfl) ?_
  refine lv_iload_n hx hb dX9_lays_9 rfl (lv_at hl 0 rfl) ?_
  refine lv_iconst (v := 3) hx hb dX9_lays_10 rfl ?_
  refine lv_iadd hx hb dX9_lays_11 ?_
  refine z_iald X (j := (26 + (7 * b)) + 3) (hW.H.at 0 0 rfl rfl) (zx_add (zx_add rfl (zx_mul rfl rfl)) rfl) (by omega) (by decide) dX9_lays_12 ?_
  refine z_stk (b := [.int (nI mm)]) (by rw [show (f ((26 + (7 * b)) + 3)) = nI mm from hg]) ?_
  refine lv_istore (lv' := [(4, .int (nI mm)), (3, .int (26 + (7 * (nI b)))), (0, .ref a), (1, .int (nI b)), (2, .int done)]) hx hb dX9_lays_13 hl (by decide) rfl (fun ls hl => ?_)
  have hls := hl.1
  refine lv_bipush (v := 54) hx hb dX9_lays_15 (by decide) ?_
  refine lv_bipush (v := 7) hx hb dX9_lays_17 (by decide) ?_
  refine lv_iload hx hb dX9_lays_19 (lv_at hl 0 rfl) ?_
  refine lv_imul hx hb dX9_lays_21 ?_
  refine lv_iadd hx hb dX9_lays_22 ?_
  refine lv_istore (lv' := [(5, .int (54 + (7 * (nI mm)))), (4, .int (nI mm)), (3, .int (26 + (7 * (nI b)))), (0, .ref a), (1, .int (nI b)), (2, .int done)]) hx hb dX9_lays_23 hl (by decide) rfl (fun ls hl => ?_)
  have hls := hl.1
  have hj97 : ∀  (ld : Int32) (hld : ld = m_lds f b mm done) (H : Heap) (locs : List Loc), zW g A ([[(a, .inl (g.2.1 0, 89, .inl f))]] : List va_W) H → va_S A s.heap H locs → ∀ (ls : Array Slot), lv_has ls 8 [(5, .int (54 + (7 * (nI mm)))), (4, .int (nI mm)), (3, .int (26 + (7 * (nI b)))), (0, .ref a), (1, .int (nI b)), (2, .int done)] → W zp l ze rm_X9_lays s zm ([.ref a, .int (nI b), .int done] : List Value).toArray zbl zmt zc H locs 0 0 (MQ zbl (zQW g ([[(a, .inl (g.2.1 0, 89, .inl f))]] : List va_W) (fun zv gs' => zv = some (.int (m_don done mm (m_lds f b mm done))) ∧ gs' = [[(a, .inl (g.2.1 0, 89, .inl (m_lay f b mm (m_lds f b mm done))))]])) ([.ref a, .int (nI b), .int done] : List Value).toArray s 0 0 A) (F0 zm 97 ls [.int ld]) := by
    intro ld hld H locs hW hS ls hl
    have hls := hl.1
    refine lv_istore (lv' := [(7, .int ld), (5, .int (54 + (7 * (nI mm)))), (4, .int (nI mm)), (3, .int (26 + (7 * (nI b)))), (0, .ref a), (1, .int (nI b)), (2, .int done)]) hx hb dX9_lays_97 hl (by decide) rfl (fun ls hl => ?_)
    have hls := hl.1
    refine lv_aload_n hx hb dX9_lays_99 rfl (lv_at hl 4 rfl) ?_
    refine lv_iload hx hb dX9_lays_100 (lv_at hl 1 rfl) ?_
    refine lv_iconst (v := 1) hx hb dX9_lays_102 rfl ?_
    refine lv_iadd hx hb dX9_lays_103 ?_
    refine lv_dup2_11 hx hb dX9_lays_104 rfl rfl ?_
    refine z_iald X (j := (54 + (7 * mm)) + 1) (hW.H.at 0 0 rfl rfl) (zx_add (zx_add rfl (zx_mul rfl rfl)) rfl) (by omega) (by decide) dX9_lays_105 ?_
    refine lv_iload hx hb dX9_lays_106 (lv_at hl 0 rfl) ?_
    refine lv_iadd hx hb dX9_lays_108 ?_
    refine z_iast X (j := (54 + (7 * mm)) + 1) hW hS 0 0 rfl rfl (zx_add (zx_add rfl (zx_mul rfl rfl)) rfl) (by omega) (by decide) dX9_lays_109 (fun H locs hW hS => ?_)
    have hW : zW g A ([[(a, .inl (g.2.1 0, 89, .inl (upd f ((54 + (7 * mm)) + 1) ((f ((54 + (7 * mm)) + 1)) + ld))))]] : List va_W) H := hW
    refine lv_aload_n hx hb dX9_lays_110 rfl (lv_at hl 4 rfl) ?_
    refine lv_iload hx hb dX9_lays_111 (lv_at hl 1 rfl) ?_
    refine lv_iconst (v := 2) hx hb dX9_lays_113 rfl ?_
    refine lv_iadd hx hb dX9_lays_114 ?_
    refine lv_dup2_11 hx hb dX9_lays_115 rfl rfl ?_
    refine z_iald X (j := (54 + (7 * mm)) + 2) (hW.H.at 0 0 rfl rfl) (zx_add (zx_add rfl (zx_mul rfl rfl)) rfl) (by omega) (by decide) dX9_lays_116 ?_
    refine lv_iload hx hb dX9_lays_117 (lv_at hl 0 rfl) ?_
    refine lv_iadd hx hb dX9_lays_119 ?_
    refine z_iast X (j := (54 + (7 * mm)) + 2) hW hS 0 0 rfl rfl (zx_add (zx_add rfl (zx_mul rfl rfl)) rfl) (by omega) (by decide) dX9_lays_120 (fun H locs hW hS => ?_)
    have hW : zW g A ([[(a, .inl (g.2.1 0, 89, .inl (upd (upd f ((54 + (7 * mm)) + 1) ((f ((54 + (7 * mm)) + 1)) + ld)) ((54 + (7 * mm)) + 2) (((upd f ((54 + (7 * mm)) + 1) ((f ((54 + (7 * mm)) + 1)) + ld)) ((54 + (7 * mm)) + 2)) + ld))))]] : List va_W) H := hW
    refine lv_aload_n hx hb dX9_lays_121 rfl (lv_at hl 4 rfl) ?_
    refine lv_iload_n hx hb dX9_lays_122 rfl (lv_at hl 3 rfl) ?_
    refine lv_iconst (v := 2) hx hb dX9_lays_123 rfl ?_
    refine lv_iadd hx hb dX9_lays_124 ?_
    refine lv_dup2_11 hx hb dX9_lays_125 rfl rfl ?_
    refine z_iald X (j := (26 + (7 * b)) + 2) (hW.H.at 0 0 rfl rfl) (zx_add (zx_add rfl (zx_mul rfl rfl)) rfl) (by omega) (by decide) dX9_lays_126 ?_
    refine lv_iload hx hb dX9_lays_127 (lv_at hl 0 rfl) ?_
    refine lv_isub hx hb dX9_lays_129 ?_
    refine z_iast X (j := (26 + (7 * b)) + 2) hW hS 0 0 rfl rfl (zx_add (zx_add rfl (zx_mul rfl rfl)) rfl) (by omega) (by decide) dX9_lays_130 (fun H locs hW hS => ?_)
    have hW : zW g A ([[(a, .inl (g.2.1 0, 89, .inl (upd (upd (upd f ((54 + (7 * mm)) + 1) ((f ((54 + (7 * mm)) + 1)) + ld)) ((54 + (7 * mm)) + 2) (((upd f ((54 + (7 * mm)) + 1) ((f ((54 + (7 * mm)) + 1)) + ld)) ((54 + (7 * mm)) + 2)) + ld)) ((26 + (7 * b)) + 2) (((upd (upd f ((54 + (7 * mm)) + 1) ((f ((54 + (7 * mm)) + 1)) + ld)) ((54 + (7 * mm)) + 2) (((upd f ((54 + (7 * mm)) + 1) ((f ((54 + (7 * mm)) + 1)) + ld)) ((54 + (7 * mm)) + 2)) + ld)) ((26 + (7 * b)) + 2)) - ld))))]] : List va_W) H := hW
    refine lv_aload_n hx hb dX9_lays_131 rfl (lv_at hl 4 rfl) ?_
    refine lv_iload_n hx hb dX9_lays_132 rfl (lv_at hl 3 rfl) ?_
    refine lv_bipush (v := 6) hx hb dX9_lays_133 (by decide) ?_
    refine lv_iadd hx hb dX9_lays_135 ?_
    refine lv_dup2_11 hx hb dX9_lays_136 rfl rfl ?_
    refine z_iald X (j := (26 + (7 * b)) + 6) (hW.H.at 0 0 rfl rfl) (zx_add (zx_add rfl (zx_mul rfl rfl)) rfl) (by omega) (by decide) dX9_lays_137 ?_
    refine lv_iload hx hb dX9_lays_138 (lv_at hl 0 rfl) ?_
    refine lv_iadd hx hb dX9_lays_140 ?_
    refine z_iast X (j := (26 + (7 * b)) + 6) hW hS 0 0 rfl rfl (zx_add (zx_add rfl (zx_mul rfl rfl)) rfl) (by omega) (by decide) dX9_lays_141 (fun H locs hW hS => ?_)
    have hW : zW g A ([[(a, .inl (g.2.1 0, 89, .inl (upd (upd (upd (upd f ((54 + (7 * mm)) + 1) ((f ((54 + (7 * mm)) + 1)) + ld)) ((54 + (7 * mm)) + 2) (((upd f ((54 + (7 * mm)) + 1) ((f ((54 + (7 * mm)) + 1)) + ld)) ((54 + (7 * mm)) + 2)) + ld)) ((26 + (7 * b)) + 2) (((upd (upd f ((54 + (7 * mm)) + 1) ((f ((54 + (7 * mm)) + 1)) + ld)) ((54 + (7 * mm)) + 2) (((upd f ((54 + (7 * mm)) + 1) ((f ((54 + (7 * mm)) + 1)) + ld)) ((54 + (7 * mm)) + 2)) + ld)) ((26 + (7 * b)) + 2)) - ld)) ((26 + (7 * b)) + 6) (((upd (upd (upd f ((54 + (7 * mm)) + 1) ((f ((54 + (7 * mm)) + 1)) + ld)) ((54 + (7 * mm)) + 2) (((upd f ((54 + (7 * mm)) + 1) ((f ((54 + (7 * mm)) + 1)) + ld)) ((54 + (7 * mm)) + 2)) + ld)) ((26 + (7 * b)) + 2) (((upd (upd f ((54 + (7 * mm)) + 1) ((f ((54 + (7 * mm)) + 1)) + ld)) ((54 + (7 * mm)) + 2) (((upd f ((54 + (7 * mm)) + 1) ((f ((54 + (7 * mm)) + 1)) + ld)) ((54 + (7 * mm)) + 2)) + ld)) ((26 + (7 * b)) + 2)) - ld)) ((26 + (7 * b)) + 6)) + ld))))]] : List va_W) H := hW
    refine lv_aload_n hx hb dX9_lays_142 rfl (lv_at hl 4 rfl) ?_
    refine lv_iload_n hx hb dX9_lays_143 rfl (lv_at hl 3 rfl) ?_
    refine lv_iconst (v := 2) hx hb dX9_lays_144 rfl ?_
    refine lv_iadd hx hb dX9_lays_145 ?_
    refine z_iald X (j := (26 + (7 * b)) + 2) (hW.H.at 0 0 rfl rfl) (zx_add (zx_add rfl (zx_mul rfl rfl)) rfl) (by omega) (by decide) dX9_lays_146 ?_
    refine lv_if_ne (tgt := 170) hx hb dX9_lays_147 (by decide) (fun c147_0 => ?_) (fun c147_0 => ?_)
    · skip
      refine lv_aload_n hx hb dX9_lays_170 rfl (lv_at hl 4 rfl) ?_
      refine lv_bipush (v := 7) hx hb dX9_lays_171 (by decide) ?_
      refine lv_dup2_11 hx hb dX9_lays_173 rfl rfl ?_
      refine z_iald X (j := 7) (hW.H.at 0 0 rfl rfl) rfl (by omega) (by decide) dX9_lays_174 ?_
      refine lv_iconst (v := 1) hx hb dX9_lays_175 rfl ?_
      refine lv_iadd hx hb dX9_lays_176 ?_
      refine z_iast X (j := 7) hW hS 0 0 rfl rfl rfl (by omega) (by decide) dX9_lays_177 (fun H locs hW hS => ?_)
      have hW : zW g A ([[(a, .inl (g.2.1 0, 89, .inl (upd (upd (upd (upd (upd f ((54 + (7 * mm)) + 1) ((f ((54 + (7 * mm)) + 1)) + ld)) ((54 + (7 * mm)) + 2) (((upd f ((54 + (7 * mm)) + 1) ((f ((54 + (7 * mm)) + 1)) + ld)) ((54 + (7 * mm)) + 2)) + ld)) ((26 + (7 * b)) + 2) (((upd (upd f ((54 + (7 * mm)) + 1) ((f ((54 + (7 * mm)) + 1)) + ld)) ((54 + (7 * mm)) + 2) (((upd f ((54 + (7 * mm)) + 1) ((f ((54 + (7 * mm)) + 1)) + ld)) ((54 + (7 * mm)) + 2)) + ld)) ((26 + (7 * b)) + 2)) - ld)) ((26 + (7 * b)) + 6) (((upd (upd (upd f ((54 + (7 * mm)) + 1) ((f ((54 + (7 * mm)) + 1)) + ld)) ((54 + (7 * mm)) + 2) (((upd f ((54 + (7 * mm)) + 1) ((f ((54 + (7 * mm)) + 1)) + ld)) ((54 + (7 * mm)) + 2)) + ld)) ((26 + (7 * b)) + 2) (((upd (upd f ((54 + (7 * mm)) + 1) ((f ((54 + (7 * mm)) + 1)) + ld)) ((54 + (7 * mm)) + 2) (((upd f ((54 + (7 * mm)) + 1) ((f ((54 + (7 * mm)) + 1)) + ld)) ((54 + (7 * mm)) + 2)) + ld)) ((26 + (7 * b)) + 2)) - ld)) ((26 + (7 * b)) + 6)) + ld)) 7 (((upd (upd (upd (upd f ((54 + (7 * mm)) + 1) ((f ((54 + (7 * mm)) + 1)) + ld)) ((54 + (7 * mm)) + 2) (((upd f ((54 + (7 * mm)) + 1) ((f ((54 + (7 * mm)) + 1)) + ld)) ((54 + (7 * mm)) + 2)) + ld)) ((26 + (7 * b)) + 2) (((upd (upd f ((54 + (7 * mm)) + 1) ((f ((54 + (7 * mm)) + 1)) + ld)) ((54 + (7 * mm)) + 2) (((upd f ((54 + (7 * mm)) + 1) ((f ((54 + (7 * mm)) + 1)) + ld)) ((54 + (7 * mm)) + 2)) + ld)) ((26 + (7 * b)) + 2)) - ld)) ((26 + (7 * b)) + 6) (((upd (upd (upd f ((54 + (7 * mm)) + 1) ((f ((54 + (7 * mm)) + 1)) + ld)) ((54 + (7 * mm)) + 2) (((upd f ((54 + (7 * mm)) + 1) ((f ((54 + (7 * mm)) + 1)) + ld)) ((54 + (7 * mm)) + 2)) + ld)) ((26 + (7 * b)) + 2) (((upd (upd f ((54 + (7 * mm)) + 1) ((f ((54 + (7 * mm)) + 1)) + ld)) ((54 + (7 * mm)) + 2) (((upd f ((54 + (7 * mm)) + 1) ((f ((54 + (7 * mm)) + 1)) + ld)) ((54 + (7 * mm)) + 2)) + ld)) ((26 + (7 * b)) + 2)) - ld)) ((26 + (7 * b)) + 6)) + ld)) 7) + 1))))]] : List va_W) H := hW
      refine lv_iload hx hb dX9_lays_178 (lv_at hl 0 rfl) ?_
      refine lv_if_le (tgt := 192) hx hb dX9_lays_180 (by decide) (fun c180_1 => ?_) (fun c180_1 => ?_)
      · skip
        refine lv_iload_n hx hb dX9_lays_192 rfl (lv_at hl 6 rfl) ?_
        refine zWR.iret X hAe hW hS hr hlocks ?_ (Nat.le_of_ble_eq_true rfl) (Nat.le_of_ble_eq_true rfl) dX9_lays_193
        rw [← hld]
        refine ⟨?_, ?_⟩
        · simp only [m_don, c147_0, c180_1, if_true, if_false]
        · simp only [m_lay, c147_0, c180_1, if_true, if_false]
      · skip
        refine lv_iload_n hx hb dX9_lays_183 rfl (lv_at hl 6 rfl) ?_
        refine lv_iconst (v := 1) hx hb dX9_lays_184 rfl ?_
        refine lv_iload hx hb dX9_lays_185 (lv_at hl 2 rfl) ?_
        refine lv_ishl hx hb dX9_lays_187 ?_
        refine lv_ior hx hb dX9_lays_188 ?_
        refine lv_goto (tgt := 193) hx hb dX9_lays_189 (by decide) ?_
        refine zWR.iret X hAe hW hS hr hlocks ?_ (Nat.le_of_ble_eq_true rfl) (Nat.le_of_ble_eq_true rfl) dX9_lays_193
        rw [← hld]
        refine ⟨?_, ?_⟩
        · simp only [m_don, c147_0, c180_1, if_true, if_false]
        · simp only [m_lay, c147_0, c180_1, if_true, if_false]
    · skip
      refine lv_aload_n hx hb dX9_lays_150 rfl (lv_at hl 4 rfl) ?_
      refine lv_iload_n hx hb dX9_lays_151 rfl (lv_at hl 3 rfl) ?_
      refine lv_iconst (v := 1) hx hb dX9_lays_152 rfl ?_
      refine lv_iadd hx hb dX9_lays_153 ?_
      refine lv_iconst (v := 3) hx hb dX9_lays_154 rfl ?_
      refine z_iast X (j := (26 + (7 * b)) + 1) hW hS 0 0 rfl rfl (zx_add (zx_add rfl (zx_mul rfl rfl)) rfl) (by omega) (by decide) dX9_lays_155 (fun H locs hW hS => ?_)
      have hW : zW g A ([[(a, .inl (g.2.1 0, 89, .inl (upd (upd (upd (upd (upd f ((54 + (7 * mm)) + 1) ((f ((54 + (7 * mm)) + 1)) + ld)) ((54 + (7 * mm)) + 2) (((upd f ((54 + (7 * mm)) + 1) ((f ((54 + (7 * mm)) + 1)) + ld)) ((54 + (7 * mm)) + 2)) + ld)) ((26 + (7 * b)) + 2) (((upd (upd f ((54 + (7 * mm)) + 1) ((f ((54 + (7 * mm)) + 1)) + ld)) ((54 + (7 * mm)) + 2) (((upd f ((54 + (7 * mm)) + 1) ((f ((54 + (7 * mm)) + 1)) + ld)) ((54 + (7 * mm)) + 2)) + ld)) ((26 + (7 * b)) + 2)) - ld)) ((26 + (7 * b)) + 6) (((upd (upd (upd f ((54 + (7 * mm)) + 1) ((f ((54 + (7 * mm)) + 1)) + ld)) ((54 + (7 * mm)) + 2) (((upd f ((54 + (7 * mm)) + 1) ((f ((54 + (7 * mm)) + 1)) + ld)) ((54 + (7 * mm)) + 2)) + ld)) ((26 + (7 * b)) + 2) (((upd (upd f ((54 + (7 * mm)) + 1) ((f ((54 + (7 * mm)) + 1)) + ld)) ((54 + (7 * mm)) + 2) (((upd f ((54 + (7 * mm)) + 1) ((f ((54 + (7 * mm)) + 1)) + ld)) ((54 + (7 * mm)) + 2)) + ld)) ((26 + (7 * b)) + 2)) - ld)) ((26 + (7 * b)) + 6)) + ld)) ((26 + (7 * b)) + 1) 3)))]] : List va_W) H := hW
      refine lv_aload_n hx hb dX9_lays_156 rfl (lv_at hl 4 rfl) ?_
      refine lv_iload_n hx hb dX9_lays_157 rfl (lv_at hl 3 rfl) ?_
      refine lv_iconst (v := 4) hx hb dX9_lays_158 rfl ?_
      refine lv_iadd hx hb dX9_lays_159 ?_
      refine lv_aload_n hx hb dX9_lays_160 rfl (lv_at hl 4 rfl) ?_
      refine lv_iload hx hb dX9_lays_161 (lv_at hl 2 rfl) ?_
      refine zc_ro (zr_S (As := [.ref a, .int (nI mm)]) (rest := [.int ((26 + (7 * (nI b))) + 4), .ref a]) X (m_X9_way l g a (upd (upd (upd (upd (upd f ((54 + (7 * mm)) + 1) ((f ((54 + (7 * mm)) + 1)) + ld)) ((54 + (7 * mm)) + 2) (((upd f ((54 + (7 * mm)) + 1) ((f ((54 + (7 * mm)) + 1)) + ld)) ((54 + (7 * mm)) + 2)) + ld)) ((26 + (7 * b)) + 2) (((upd (upd f ((54 + (7 * mm)) + 1) ((f ((54 + (7 * mm)) + 1)) + ld)) ((54 + (7 * mm)) + 2) (((upd f ((54 + (7 * mm)) + 1) ((f ((54 + (7 * mm)) + 1)) + ld)) ((54 + (7 * mm)) + 2)) + ld)) ((26 + (7 * b)) + 2)) - ld)) ((26 + (7 * b)) + 6) (((upd (upd (upd f ((54 + (7 * mm)) + 1) ((f ((54 + (7 * mm)) + 1)) + ld)) ((54 + (7 * mm)) + 2) (((upd f ((54 + (7 * mm)) + 1) ((f ((54 + (7 * mm)) + 1)) + ld)) ((54 + (7 * mm)) + 2)) + ld)) ((26 + (7 * b)) + 2) (((upd (upd f ((54 + (7 * mm)) + 1) ((f ((54 + (7 * mm)) + 1)) + ld)) ((54 + (7 * mm)) + 2) (((upd f ((54 + (7 * mm)) + 1) ((f ((54 + (7 * mm)) + 1)) + ld)) ((54 + (7 * mm)) + 2)) + ld)) ((26 + (7 * b)) + 2)) - ld)) ((26 + (7 * b)) + 6)) + ld)) ((26 + (7 * b)) + 1) 3) (nI mm)) zL_RX9_72 (zH.cons (va_P.one (hW.H.at 0 0 rfl rfl)) zH.nil) hS hA0 hls rfl (Nat.le_of_ble_eq_true rfl) ⟨rfl, rfl, Nat.le_of_ble_eq_true rfl, Nat.le_of_ble_eq_true rfl, (Nat.le_of_ble_eq_true rfl), (Nat.le_of_ble_eq_true rfl)⟩ dX9_lays_163) ?_
      refine z_iast X (j := (26 + (7 * b)) + 4) hW hS 0 0 rfl rfl (zx_add (zx_add rfl (zx_mul rfl rfl)) rfl) (by omega) (by decide) dX9_lays_166 (fun H locs hW hS => ?_)
      have hW : zW g A ([[(a, .inl (g.2.1 0, 89, .inl (upd (upd (upd (upd (upd (upd f ((54 + (7 * mm)) + 1) ((f ((54 + (7 * mm)) + 1)) + ld)) ((54 + (7 * mm)) + 2) (((upd f ((54 + (7 * mm)) + 1) ((f ((54 + (7 * mm)) + 1)) + ld)) ((54 + (7 * mm)) + 2)) + ld)) ((26 + (7 * b)) + 2) (((upd (upd f ((54 + (7 * mm)) + 1) ((f ((54 + (7 * mm)) + 1)) + ld)) ((54 + (7 * mm)) + 2) (((upd f ((54 + (7 * mm)) + 1) ((f ((54 + (7 * mm)) + 1)) + ld)) ((54 + (7 * mm)) + 2)) + ld)) ((26 + (7 * b)) + 2)) - ld)) ((26 + (7 * b)) + 6) (((upd (upd (upd f ((54 + (7 * mm)) + 1) ((f ((54 + (7 * mm)) + 1)) + ld)) ((54 + (7 * mm)) + 2) (((upd f ((54 + (7 * mm)) + 1) ((f ((54 + (7 * mm)) + 1)) + ld)) ((54 + (7 * mm)) + 2)) + ld)) ((26 + (7 * b)) + 2) (((upd (upd f ((54 + (7 * mm)) + 1) ((f ((54 + (7 * mm)) + 1)) + ld)) ((54 + (7 * mm)) + 2) (((upd f ((54 + (7 * mm)) + 1) ((f ((54 + (7 * mm)) + 1)) + ld)) ((54 + (7 * mm)) + 2)) + ld)) ((26 + (7 * b)) + 2)) - ld)) ((26 + (7 * b)) + 6)) + ld)) ((26 + (7 * b)) + 1) 3) ((26 + (7 * b)) + 4) (m_way (upd (upd (upd (upd (upd f ((54 + (7 * mm)) + 1) ((f ((54 + (7 * mm)) + 1)) + ld)) ((54 + (7 * mm)) + 2) (((upd f ((54 + (7 * mm)) + 1) ((f ((54 + (7 * mm)) + 1)) + ld)) ((54 + (7 * mm)) + 2)) + ld)) ((26 + (7 * b)) + 2) (((upd (upd f ((54 + (7 * mm)) + 1) ((f ((54 + (7 * mm)) + 1)) + ld)) ((54 + (7 * mm)) + 2) (((upd f ((54 + (7 * mm)) + 1) ((f ((54 + (7 * mm)) + 1)) + ld)) ((54 + (7 * mm)) + 2)) + ld)) ((26 + (7 * b)) + 2)) - ld)) ((26 + (7 * b)) + 6) (((upd (upd (upd f ((54 + (7 * mm)) + 1) ((f ((54 + (7 * mm)) + 1)) + ld)) ((54 + (7 * mm)) + 2) (((upd f ((54 + (7 * mm)) + 1) ((f ((54 + (7 * mm)) + 1)) + ld)) ((54 + (7 * mm)) + 2)) + ld)) ((26 + (7 * b)) + 2) (((upd (upd f ((54 + (7 * mm)) + 1) ((f ((54 + (7 * mm)) + 1)) + ld)) ((54 + (7 * mm)) + 2) (((upd f ((54 + (7 * mm)) + 1) ((f ((54 + (7 * mm)) + 1)) + ld)) ((54 + (7 * mm)) + 2)) + ld)) ((26 + (7 * b)) + 2)) - ld)) ((26 + (7 * b)) + 6)) + ld)) ((26 + (7 * b)) + 1) 3) (nI mm)))))]] : List va_W) H := hW
      refine lv_goto (tgt := 178) hx hb dX9_lays_167 (by decide) ?_
      refine lv_iload hx hb dX9_lays_178 (lv_at hl 0 rfl) ?_
      refine lv_if_le (tgt := 192) hx hb dX9_lays_180 (by decide) (fun c180_2 => ?_) (fun c180_2 => ?_)
      · skip
        refine lv_iload_n hx hb dX9_lays_192 rfl (lv_at hl 6 rfl) ?_
        refine zWR.iret X hAe hW hS hr hlocks ?_ (Nat.le_of_ble_eq_true rfl) (Nat.le_of_ble_eq_true rfl) dX9_lays_193
        rw [← hld]
        refine ⟨?_, ?_⟩
        · simp only [m_don, c147_0, c180_2, if_true, if_false]
        · simp only [m_lay, c147_0, c180_2, if_true, if_false]
      · skip
        refine lv_iload_n hx hb dX9_lays_183 rfl (lv_at hl 6 rfl) ?_
        refine lv_iconst (v := 1) hx hb dX9_lays_184 rfl ?_
        refine lv_iload hx hb dX9_lays_185 (lv_at hl 2 rfl) ?_
        refine lv_ishl hx hb dX9_lays_187 ?_
        refine lv_ior hx hb dX9_lays_188 ?_
        refine lv_goto (tgt := 193) hx hb dX9_lays_189 (by decide) ?_
        refine zWR.iret X hAe hW hS hr hlocks ?_ (Nat.le_of_ble_eq_true rfl) (Nat.le_of_ble_eq_true rfl) dX9_lays_193
        rw [← hld]
        refine ⟨?_, ?_⟩
        · simp only [m_don, c147_0, c180_2, if_true, if_false]
        · simp only [m_lay, c147_0, c180_2, if_true, if_false]
  refine lv_aload_n hx hb dX9_lays_25 rfl (lv_at hl 3 rfl) ?_
  refine lv_iload hx hb dX9_lays_26 (lv_at hl 1 rfl) ?_
  refine zc_ro (zr_S (As := [.ref a, .int (nI mm)]) (rest := []) X (m_X9_isOpen l g a f mm (by omega)) zL_RX9_78 (zH.cons (va_P.one (hW.H.at 0 0 rfl rfl)) zH.nil) hS hA0 hls rfl (Nat.le_of_ble_eq_true rfl) ⟨rfl, rfl, Nat.le_of_ble_eq_true rfl, Nat.le_of_ble_eq_true rfl, (Nat.le_of_ble_eq_true rfl), (Nat.le_of_ble_eq_true rfl)⟩ dX9_lays_28) ?_
  refine zb_ifeq (tgt := 47) hx hb dX9_lays_31 (by decide) (fun c31_3 => ?_) (fun c31_3 => ?_)
  · skip
    refine lv_iconst (v := 0) hx hb dX9_lays_47 rfl ?_
    refine lv_istore (lv' := [(6, .int 0), (5, .int (54 + (7 * (nI mm)))), (4, .int (nI mm)), (3, .int (26 + (7 * (nI b)))), (0, .ref a), (1, .int (nI b)), (2, .int done)]) hx hb dX9_lays_48 hl (by decide) rfl (fun ls hl => ?_)
    have hls := hl.1
    refine lv_iload hx hb dX9_lays_50 (lv_at hl 0 rfl) ?_
    refine lv_if_ne (tgt := 59) hx hb dX9_lays_52 (by decide) (fun c52_4 => ?_) (fun c52_4 => ?_)
    · exact absurd c52_4 (by decide)
    · skip
      refine lv_iconst (v := 0) hx hb dX9_lays_55 rfl ?_
      refine lv_goto (tgt := 97) hx hb dX9_lays_56 (by decide) ?_
      exact hj97 _ (by simp [m_lds, c31_3, c52_4]) _ _ hW hS _ (lv_sub hl [1, 2, 3, 4, 5, 6] rfl)
  · skip
    refine lv_iload_n hx hb dX9_lays_34 rfl (lv_at hl 5 rfl) ?_
    refine lv_iload hx hb dX9_lays_35 (lv_at hl 1 rfl) ?_
    refine lv_ishr hx hb dX9_lays_37 ?_
    refine lv_iconst (v := 1) hx hb dX9_lays_38 rfl ?_
    refine lv_iand hx hb dX9_lays_39 ?_
    refine lv_if_ne (tgt := 47) hx hb dX9_lays_40 (by decide) (fun c40_5 => ?_) (fun c40_5 => ?_)
    · skip
      refine lv_iconst (v := 0) hx hb dX9_lays_47 rfl ?_
      refine lv_istore (lv' := [(6, .int 0), (5, .int (54 + (7 * (nI mm)))), (4, .int (nI mm)), (3, .int (26 + (7 * (nI b)))), (0, .ref a), (1, .int (nI b)), (2, .int done)]) hx hb dX9_lays_48 hl (by decide) rfl (fun ls hl => ?_)
      have hls := hl.1
      refine lv_iload hx hb dX9_lays_50 (lv_at hl 0 rfl) ?_
      refine lv_if_ne (tgt := 59) hx hb dX9_lays_52 (by decide) (fun c52_6 => ?_) (fun c52_6 => ?_)
      · exact absurd c52_6 (by decide)
      · skip
        refine lv_iconst (v := 0) hx hb dX9_lays_55 rfl ?_
        refine lv_goto (tgt := 97) hx hb dX9_lays_56 (by decide) ?_
        exact hj97 _ (by simp [m_lds, c31_3, c40_5, c52_6]) _ _ hW hS _ (lv_sub hl [1, 2, 3, 4, 5, 6] rfl)
    · skip
      refine lv_iconst (v := 1) hx hb dX9_lays_43 rfl ?_
      refine lv_goto (tgt := 48) hx hb dX9_lays_44 (by decide) ?_
      refine lv_istore (lv' := [(6, .int 1), (5, .int (54 + (7 * (nI mm)))), (4, .int (nI mm)), (3, .int (26 + (7 * (nI b)))), (0, .ref a), (1, .int (nI b)), (2, .int done)]) hx hb dX9_lays_48 hl (by decide) rfl (fun ls hl => ?_)
      have hls := hl.1
      refine lv_iload hx hb dX9_lays_50 (lv_at hl 0 rfl) ?_
      refine lv_if_ne (tgt := 59) hx hb dX9_lays_52 (by decide) (fun c52_7 => ?_) (fun c52_7 => ?_)
      · skip
        refine lv_aload_n hx hb dX9_lays_59 rfl (lv_at hl 4 rfl) ?_
        refine lv_iload hx hb dX9_lays_60 (lv_at hl 1 rfl) ?_
        refine z_iald X (j := 54 + (7 * mm)) (hW.H.at 0 0 rfl rfl) (zx_add rfl (zx_mul rfl rfl)) (by omega) (by decide) dX9_lays_62 ?_
        refine lv_aload_n hx hb dX9_lays_63 rfl (lv_at hl 4 rfl) ?_
        refine lv_iload hx hb dX9_lays_64 (lv_at hl 1 rfl) ?_
        refine lv_iconst (v := 1) hx hb dX9_lays_66 rfl ?_
        refine lv_iadd hx hb dX9_lays_67 ?_
        refine z_iald X (j := (54 + (7 * mm)) + 1) (hW.H.at 0 0 rfl rfl) (zx_add (zx_add rfl (zx_mul rfl rfl)) rfl) (by omega) (by decide) dX9_lays_68 ?_
        refine lv_isub hx hb dX9_lays_69 ?_
        refine lv_aload_n hx hb dX9_lays_70 rfl (lv_at hl 4 rfl) ?_
        refine lv_iload_n hx hb dX9_lays_71 rfl (lv_at hl 3 rfl) ?_
        refine lv_iconst (v := 2) hx hb dX9_lays_72 rfl ?_
        refine lv_iadd hx hb dX9_lays_73 ?_
        refine z_iald X (j := (26 + (7 * b)) + 2) (hW.H.at 0 0 rfl rfl) (zx_add (zx_add rfl (zx_mul rfl rfl)) rfl) (by omega) (by decide) dX9_lays_74 ?_
        refine lv_icmp_ge (tgt := 92) hx hb dX9_lays_75 (by decide) (fun c75_8 => ?_) (fun c75_8 => ?_)
        · skip
          refine lv_aload_n hx hb dX9_lays_92 rfl (lv_at hl 4 rfl) ?_
          refine lv_iload_n hx hb dX9_lays_93 rfl (lv_at hl 3 rfl) ?_
          refine lv_iconst (v := 2) hx hb dX9_lays_94 rfl ?_
          refine lv_iadd hx hb dX9_lays_95 ?_
          refine z_iald X (j := (26 + (7 * b)) + 2) (hW.H.at 0 0 rfl rfl) (zx_add (zx_add rfl (zx_mul rfl rfl)) rfl) (by omega) (by decide) dX9_lays_96 ?_
          exact hj97 _ (by simp [m_lds, c31_3, c40_5, c52_7, c75_8]) _ _ hW hS _ (lv_sub hl [1, 2, 3, 4, 5, 6] rfl)
        · skip
          refine lv_aload_n hx hb dX9_lays_78 rfl (lv_at hl 4 rfl) ?_
          refine lv_iload hx hb dX9_lays_79 (lv_at hl 1 rfl) ?_
          refine z_iald X (j := 54 + (7 * mm)) (hW.H.at 0 0 rfl rfl) (zx_add rfl (zx_mul rfl rfl)) (by omega) (by decide) dX9_lays_81 ?_
          refine lv_aload_n hx hb dX9_lays_82 rfl (lv_at hl 4 rfl) ?_
          refine lv_iload hx hb dX9_lays_83 (lv_at hl 1 rfl) ?_
          refine lv_iconst (v := 1) hx hb dX9_lays_85 rfl ?_
          refine lv_iadd hx hb dX9_lays_86 ?_
          refine z_iald X (j := (54 + (7 * mm)) + 1) (hW.H.at 0 0 rfl rfl) (zx_add (zx_add rfl (zx_mul rfl rfl)) rfl) (by omega) (by decide) dX9_lays_87 ?_
          refine lv_isub hx hb dX9_lays_88 ?_
          refine lv_goto (tgt := 97) hx hb dX9_lays_89 (by decide) ?_
          exact hj97 _ (by simp [m_lds, c31_3, c40_5, c52_7, c75_8]) _ _ hW hS _ (lv_sub hl [1, 2, 3, 4, 5, 6] rfl)
      · exact absurd c52_7 (by decide)

abbrev rm_X9_raises : Room := { frames := 1, cells := 0, slots := 0, locals := 20 }
set_option maxHeartbeats 4000000 in
set_option maxRecDepth 100000 in
theorem m_X9_raises (l : Launch) (g : zG) (a : Nat) (f : Nat → Int32) (b r : Nat) (left : Int32) (hb4 : b < 4) (hr6 : r < 6) (h5 : f 5 = nI r) (sz : Nat) : zWR l yX9_raises cX9_raises 5 (Option.some Jvm.ClassFile.FieldType.int) rm_X9_raises g [.ref a, .int (nI b), .int left] ([[(a, .inl (g.2.1 0, 89, .inl f))]] : List va_W) 0 0 sz (fun zv gs' => zv = some (.int (m_rld f b r left)) ∧ gs' = [[(a, .inl (g.2.1 0, 89, .inl (m_rai f b r (m_rld f b r left))))]]) := by
  refine zWR.start (by decide) (Nat.le_of_ble_eq_true rfl) ?_
  intro zp ze s zm zbl zmt zc ls A X hr hlocks hinn hl hAe hW hS hA hA0
  have hx := X.1
  have hb := X.2.1
  have hml := X.2.2.1
  have hown := X.2.2.2.1
  have hls := hl.1
  have hl : lv_has ls 5 [(0, .ref a), (1, .int (nI b)), (2, .int left)] := hl
  refine lv_bipush (v := 26) hx hb dX9_raises_0 (by decide) ?_
  refine lv_bipush (v := 7) hx hb dX9_raises_2 (by decide) ?_
  refine lv_iload_n hx hb dX9_raises_4 rfl (lv_at hl 1 rfl) ?_
  refine lv_imul hx hb dX9_raises_5 ?_
  refine lv_iadd hx hb dX9_raises_6 ?_
  refine lv_istore_n (lv' := [(3, .int (26 + (7 * (nI b)))), (0, .ref a), (1, .int (nI b)), (2, .int left)]) hx hb dX9_raises_7 rfl hl (by decide) rfl (fun ls hl => ?_)
  have hls := hl.1
  refine lv_aload_n hx hb dX9_raises_8 rfl (lv_at hl 1 rfl) ?_
  refine lv_iload_n hx hb dX9_raises_9 rfl (lv_at hl 0 rfl) ?_
  refine z_iald X (j := 26 + (7 * b)) (hW.H.at 0 0 rfl rfl) (zx_add rfl (zx_mul rfl rfl)) (by omega) (by decide) dX9_raises_10 ?_
  refine lv_aload_n hx hb dX9_raises_11 rfl (lv_at hl 1 rfl) ?_
  refine lv_iload_n hx hb dX9_raises_12 rfl (lv_at hl 0 rfl) ?_
  refine lv_iconst (v := 2) hx hb dX9_raises_13 rfl ?_
  refine lv_iadd hx hb dX9_raises_14 ?_
  refine z_iald X (j := (26 + (7 * b)) + 2) (hW.H.at 0 0 rfl rfl) (zx_add (zx_add rfl (zx_mul rfl rfl)) rfl) (by omega) (by decide) dX9_raises_15 ?_
  refine lv_isub hx hb dX9_raises_16 ?_
  refine lv_istore (lv' := [(4, .int ((f (26 + (7 * b))) - (f ((26 + (7 * b)) + 2)))), (3, .int (26 + (7 * (nI b)))), (0, .ref a), (1, .int (nI b)), (2, .int left)]) hx hb dX9_raises_17 hl (by decide) rfl (fun ls hl => ?_)
  have hls := hl.1
  refine lv_iload hx hb dX9_raises_19 (lv_at hl 0 rfl) ?_
  refine lv_iload_n hx hb dX9_raises_21 rfl (lv_at hl 4 rfl) ?_
  refine lv_icmp_ge (tgt := 30) hx hb dX9_raises_22 (by decide) (fun c22_0 => ?_) (fun c22_0 => ?_)
  · skip
    refine lv_iload_n hx hb dX9_raises_30 rfl (lv_at hl 4 rfl) ?_
    refine lv_istore (lv' := [(4, .int left), (3, .int (26 + (7 * (nI b)))), (0, .ref a), (1, .int (nI b)), (2, .int left)]) hx hb dX9_raises_31 hl (by decide) rfl (fun ls hl => ?_)
    have hls := hl.1
    refine lv_iload hx hb dX9_raises_33 (lv_at hl 0 rfl) ?_
    refine lv_aload_n hx hb dX9_raises_35 rfl (lv_at hl 2 rfl) ?_
    refine zc_ro (zr_S (As := [.ref a]) (rest := [.int left]) X (m_X9_siltIn l g a f r (by omega) (by first | exact h5c | exact h5 | (simp (disch := omega) only [upd_n]; first | exact h5c | exact h5))) zL_RX9_81 (zH.cons (va_P.one (hW.H.at 0 0 rfl rfl)) zH.nil) hS hA0 hls rfl (Nat.le_of_ble_eq_true rfl) ⟨rfl, rfl, Nat.le_of_ble_eq_true rfl, Nat.le_of_ble_eq_true rfl, (Nat.le_of_ble_eq_true rfl), (Nat.le_of_ble_eq_true rfl)⟩ dX9_raises_36) ?_
    refine lv_icmp_ge (tgt := 47) hx hb dX9_raises_39 (by decide) (fun c39_1 => ?_) (fun c39_1 => ?_)
    · skip
      refine lv_aload_n hx hb dX9_raises_47 rfl (lv_at hl 2 rfl) ?_
      refine zc_ro (zr_S (As := [.ref a]) (rest := []) X (m_X9_siltIn l g a f r (by omega) (by first | exact h5c | exact h5 | (simp (disch := omega) only [upd_n]; first | exact h5c | exact h5))) zL_RX9_81 (zH.cons (va_P.one (hW.H.at 0 0 rfl rfl)) zH.nil) hS hA0 hls rfl (Nat.le_of_ble_eq_true rfl) ⟨rfl, rfl, Nat.le_of_ble_eq_true rfl, Nat.le_of_ble_eq_true rfl, (Nat.le_of_ble_eq_true rfl), (Nat.le_of_ble_eq_true rfl)⟩ dX9_raises_48) ?_
      refine lv_istore (lv' := [(4, .int (f (8 + 3 * r))), (3, .int (26 + (7 * (nI b)))), (0, .ref a), (1, .int (nI b)), (2, .int left)]) hx hb dX9_raises_51 hl (by decide) rfl (fun ls hl => ?_)
      have hls := hl.1
      refine lv_aload_n hx hb dX9_raises_53 rfl (lv_at hl 2 rfl) ?_
      refine lv_iload_n hx hb dX9_raises_54 rfl (lv_at hl 1 rfl) ?_
      refine lv_iconst (v := 2) hx hb dX9_raises_55 rfl ?_
      refine lv_iadd hx hb dX9_raises_56 ?_
      refine lv_dup2_11 hx hb dX9_raises_57 rfl rfl ?_
      refine z_iald X (j := (26 + (7 * b)) + 2) (hW.H.at 0 0 rfl rfl) (zx_add (zx_add rfl (zx_mul rfl rfl)) rfl) (by omega) (by decide) dX9_raises_58 ?_
      refine lv_iload hx hb dX9_raises_59 (lv_at hl 0 rfl) ?_
      refine lv_iadd hx hb dX9_raises_61 ?_
      refine z_iast X (j := (26 + (7 * b)) + 2) hW hS 0 0 rfl rfl (zx_add (zx_add rfl (zx_mul rfl rfl)) rfl) (by omega) (by decide) dX9_raises_62 (fun H locs hW hS => ?_)
      have hW : zW g A ([[(a, .inl (g.2.1 0, 89, .inl (upd f ((26 + (7 * b)) + 2) ((f ((26 + (7 * b)) + 2)) + (f (8 + 3 * r))))))]] : List va_W) H := hW
      refine lv_aload_n hx hb dX9_raises_63 rfl (lv_at hl 2 rfl) ?_
      refine lv_bipush (v := 8) hx hb dX9_raises_64 (by decide) ?_
      refine lv_iconst (v := 3) hx hb dX9_raises_66 rfl ?_
      refine lv_aload_n hx hb dX9_raises_67 rfl (lv_at hl 2 rfl) ?_
      refine lv_iconst (v := 5) hx hb dX9_raises_68 rfl ?_
      refine z_iald X (j := 5) (hW.H.at 0 0 rfl rfl) rfl (by omega) (by decide) dX9_raises_69 ?_
      refine z_stk (b := [.int (nI r), .int 3, .int 8, .ref a]) (by rw [show ((upd f ((26 + (7 * b)) + 2) ((f ((26 + (7 * b)) + 2)) + (f (8 + 3 * r)))) 5) = nI r from (by first | exact h5c | exact h5 | (simp (disch := omega) only [upd_n]; first | exact h5c | exact h5))]) ?_
      refine lv_imul hx hb dX9_raises_70 ?_
      refine lv_iadd hx hb dX9_raises_71 ?_
      refine lv_dup2_11 hx hb dX9_raises_72 rfl rfl ?_
      refine z_iald X (j := 8 + (3 * r)) (hW.H.at 0 0 rfl rfl) (zx_add rfl (zx_mul rfl rfl)) (by omega) (by decide) dX9_raises_73 ?_
      refine lv_iload hx hb dX9_raises_74 (lv_at hl 0 rfl) ?_
      refine lv_isub hx hb dX9_raises_76 ?_
      refine z_iast X (j := 8 + (3 * r)) hW hS 0 0 rfl rfl (zx_add rfl (zx_mul rfl rfl)) (by omega) (by decide) dX9_raises_77 (fun H locs hW hS => ?_)
      have hW : zW g A ([[(a, .inl (g.2.1 0, 89, .inl (upd (upd f ((26 + (7 * b)) + 2) ((f ((26 + (7 * b)) + 2)) + (f (8 + 3 * r)))) (8 + (3 * r)) (((upd f ((26 + (7 * b)) + 2) ((f ((26 + (7 * b)) + 2)) + (f (8 + 3 * r)))) (8 + (3 * r))) - (f (8 + 3 * r))))))]] : List va_W) H := hW
      refine lv_aload_n hx hb dX9_raises_78 rfl (lv_at hl 2 rfl) ?_
      refine lv_bipush (v := 8) hx hb dX9_raises_79 (by decide) ?_
      refine lv_iconst (v := 3) hx hb dX9_raises_81 rfl ?_
      refine lv_aload_n hx hb dX9_raises_82 rfl (lv_at hl 2 rfl) ?_
      refine lv_iconst (v := 5) hx hb dX9_raises_83 rfl ?_
      refine z_iald X (j := 5) (hW.H.at 0 0 rfl rfl) rfl (by omega) (by decide) dX9_raises_84 ?_
      refine z_stk (b := [.int (nI r), .int 3, .int 8, .ref a]) (by rw [show ((upd (upd f ((26 + (7 * b)) + 2) ((f ((26 + (7 * b)) + 2)) + (f (8 + 3 * r)))) (8 + (3 * r)) (((upd f ((26 + (7 * b)) + 2) ((f ((26 + (7 * b)) + 2)) + (f (8 + 3 * r)))) (8 + (3 * r))) - (f (8 + 3 * r)))) 5) = nI r from (by first | exact h5c | exact h5 | (simp (disch := omega) only [upd_n]; first | exact h5c | exact h5))]) ?_
      refine lv_imul hx hb dX9_raises_85 ?_
      refine lv_iadd hx hb dX9_raises_86 ?_
      refine lv_iconst (v := 1) hx hb dX9_raises_87 rfl ?_
      refine lv_iadd hx hb dX9_raises_88 ?_
      refine lv_dup2_11 hx hb dX9_raises_89 rfl rfl ?_
      refine z_iald X (j := (8 + (3 * r)) + 1) (hW.H.at 0 0 rfl rfl) (zx_add (zx_add rfl (zx_mul rfl rfl)) rfl) (by omega) (by decide) dX9_raises_90 ?_
      refine lv_iload hx hb dX9_raises_91 (lv_at hl 0 rfl) ?_
      refine lv_iadd hx hb dX9_raises_93 ?_
      refine z_iast X (j := (8 + (3 * r)) + 1) hW hS 0 0 rfl rfl (zx_add (zx_add rfl (zx_mul rfl rfl)) rfl) (by omega) (by decide) dX9_raises_94 (fun H locs hW hS => ?_)
      have hW : zW g A ([[(a, .inl (g.2.1 0, 89, .inl (upd (upd (upd f ((26 + (7 * b)) + 2) ((f ((26 + (7 * b)) + 2)) + (f (8 + 3 * r)))) (8 + (3 * r)) (((upd f ((26 + (7 * b)) + 2) ((f ((26 + (7 * b)) + 2)) + (f (8 + 3 * r)))) (8 + (3 * r))) - (f (8 + 3 * r)))) ((8 + (3 * r)) + 1) (((upd (upd f ((26 + (7 * b)) + 2) ((f ((26 + (7 * b)) + 2)) + (f (8 + 3 * r)))) (8 + (3 * r)) (((upd f ((26 + (7 * b)) + 2) ((f ((26 + (7 * b)) + 2)) + (f (8 + 3 * r)))) (8 + (3 * r))) - (f (8 + 3 * r)))) ((8 + (3 * r)) + 1)) + (f (8 + 3 * r))))))]] : List va_W) H := hW
      refine lv_iload hx hb dX9_raises_95 (lv_at hl 0 rfl) ?_
      refine zWR.iret X hAe hW hS hr hlocks ?_ (Nat.le_of_ble_eq_true rfl) (Nat.le_of_ble_eq_true rfl) dX9_raises_97
      refine ⟨?_, ?_⟩
      · simp only [m_rld, c22_0, c39_1, if_true, if_false]
      · simp only [m_rai, m_rld, c22_0, c39_1, if_true, if_false]
    · skip
      refine lv_iload hx hb dX9_raises_42 (lv_at hl 0 rfl) ?_
      refine lv_goto (tgt := 51) hx hb dX9_raises_44 (by decide) ?_
      refine lv_istore (lv' := [(4, .int left), (3, .int (26 + (7 * (nI b)))), (0, .ref a), (1, .int (nI b)), (2, .int left)]) hx hb dX9_raises_51 hl (by decide) rfl (fun ls hl => ?_)
      have hls := hl.1
      refine lv_aload_n hx hb dX9_raises_53 rfl (lv_at hl 2 rfl) ?_
      refine lv_iload_n hx hb dX9_raises_54 rfl (lv_at hl 1 rfl) ?_
      refine lv_iconst (v := 2) hx hb dX9_raises_55 rfl ?_
      refine lv_iadd hx hb dX9_raises_56 ?_
      refine lv_dup2_11 hx hb dX9_raises_57 rfl rfl ?_
      refine z_iald X (j := (26 + (7 * b)) + 2) (hW.H.at 0 0 rfl rfl) (zx_add (zx_add rfl (zx_mul rfl rfl)) rfl) (by omega) (by decide) dX9_raises_58 ?_
      refine lv_iload hx hb dX9_raises_59 (lv_at hl 0 rfl) ?_
      refine lv_iadd hx hb dX9_raises_61 ?_
      refine z_iast X (j := (26 + (7 * b)) + 2) hW hS 0 0 rfl rfl (zx_add (zx_add rfl (zx_mul rfl rfl)) rfl) (by omega) (by decide) dX9_raises_62 (fun H locs hW hS => ?_)
      have hW : zW g A ([[(a, .inl (g.2.1 0, 89, .inl (upd f ((26 + (7 * b)) + 2) ((f ((26 + (7 * b)) + 2)) + left))))]] : List va_W) H := hW
      refine lv_aload_n hx hb dX9_raises_63 rfl (lv_at hl 2 rfl) ?_
      refine lv_bipush (v := 8) hx hb dX9_raises_64 (by decide) ?_
      refine lv_iconst (v := 3) hx hb dX9_raises_66 rfl ?_
      refine lv_aload_n hx hb dX9_raises_67 rfl (lv_at hl 2 rfl) ?_
      refine lv_iconst (v := 5) hx hb dX9_raises_68 rfl ?_
      refine z_iald X (j := 5) (hW.H.at 0 0 rfl rfl) rfl (by omega) (by decide) dX9_raises_69 ?_
      refine z_stk (b := [.int (nI r), .int 3, .int 8, .ref a]) (by rw [show ((upd f ((26 + (7 * b)) + 2) ((f ((26 + (7 * b)) + 2)) + left)) 5) = nI r from (by first | exact h5c | exact h5 | (simp (disch := omega) only [upd_n]; first | exact h5c | exact h5))]) ?_
      refine lv_imul hx hb dX9_raises_70 ?_
      refine lv_iadd hx hb dX9_raises_71 ?_
      refine lv_dup2_11 hx hb dX9_raises_72 rfl rfl ?_
      refine z_iald X (j := 8 + (3 * r)) (hW.H.at 0 0 rfl rfl) (zx_add rfl (zx_mul rfl rfl)) (by omega) (by decide) dX9_raises_73 ?_
      refine lv_iload hx hb dX9_raises_74 (lv_at hl 0 rfl) ?_
      refine lv_isub hx hb dX9_raises_76 ?_
      refine z_iast X (j := 8 + (3 * r)) hW hS 0 0 rfl rfl (zx_add rfl (zx_mul rfl rfl)) (by omega) (by decide) dX9_raises_77 (fun H locs hW hS => ?_)
      have hW : zW g A ([[(a, .inl (g.2.1 0, 89, .inl (upd (upd f ((26 + (7 * b)) + 2) ((f ((26 + (7 * b)) + 2)) + left)) (8 + (3 * r)) (((upd f ((26 + (7 * b)) + 2) ((f ((26 + (7 * b)) + 2)) + left)) (8 + (3 * r))) - left))))]] : List va_W) H := hW
      refine lv_aload_n hx hb dX9_raises_78 rfl (lv_at hl 2 rfl) ?_
      refine lv_bipush (v := 8) hx hb dX9_raises_79 (by decide) ?_
      refine lv_iconst (v := 3) hx hb dX9_raises_81 rfl ?_
      refine lv_aload_n hx hb dX9_raises_82 rfl (lv_at hl 2 rfl) ?_
      refine lv_iconst (v := 5) hx hb dX9_raises_83 rfl ?_
      refine z_iald X (j := 5) (hW.H.at 0 0 rfl rfl) rfl (by omega) (by decide) dX9_raises_84 ?_
      refine z_stk (b := [.int (nI r), .int 3, .int 8, .ref a]) (by rw [show ((upd (upd f ((26 + (7 * b)) + 2) ((f ((26 + (7 * b)) + 2)) + left)) (8 + (3 * r)) (((upd f ((26 + (7 * b)) + 2) ((f ((26 + (7 * b)) + 2)) + left)) (8 + (3 * r))) - left)) 5) = nI r from (by first | exact h5c | exact h5 | (simp (disch := omega) only [upd_n]; first | exact h5c | exact h5))]) ?_
      refine lv_imul hx hb dX9_raises_85 ?_
      refine lv_iadd hx hb dX9_raises_86 ?_
      refine lv_iconst (v := 1) hx hb dX9_raises_87 rfl ?_
      refine lv_iadd hx hb dX9_raises_88 ?_
      refine lv_dup2_11 hx hb dX9_raises_89 rfl rfl ?_
      refine z_iald X (j := (8 + (3 * r)) + 1) (hW.H.at 0 0 rfl rfl) (zx_add (zx_add rfl (zx_mul rfl rfl)) rfl) (by omega) (by decide) dX9_raises_90 ?_
      refine lv_iload hx hb dX9_raises_91 (lv_at hl 0 rfl) ?_
      refine lv_iadd hx hb dX9_raises_93 ?_
      refine z_iast X (j := (8 + (3 * r)) + 1) hW hS 0 0 rfl rfl (zx_add (zx_add rfl (zx_mul rfl rfl)) rfl) (by omega) (by decide) dX9_raises_94 (fun H locs hW hS => ?_)
      have hW : zW g A ([[(a, .inl (g.2.1 0, 89, .inl (upd (upd (upd f ((26 + (7 * b)) + 2) ((f ((26 + (7 * b)) + 2)) + left)) (8 + (3 * r)) (((upd f ((26 + (7 * b)) + 2) ((f ((26 + (7 * b)) + 2)) + left)) (8 + (3 * r))) - left)) ((8 + (3 * r)) + 1) (((upd (upd f ((26 + (7 * b)) + 2) ((f ((26 + (7 * b)) + 2)) + left)) (8 + (3 * r)) (((upd f ((26 + (7 * b)) + 2) ((f ((26 + (7 * b)) + 2)) + left)) (8 + (3 * r))) - left)) ((8 + (3 * r)) + 1)) + left))))]] : List va_W) H := hW
      refine lv_iload hx hb dX9_raises_95 (lv_at hl 0 rfl) ?_
      refine zWR.iret X hAe hW hS hr hlocks ?_ (Nat.le_of_ble_eq_true rfl) (Nat.le_of_ble_eq_true rfl) dX9_raises_97
      refine ⟨?_, ?_⟩
      · simp only [m_rld, c22_0, c39_1, if_true, if_false]
      · simp only [m_rai, m_rld, c22_0, c39_1, if_true, if_false]
  · skip
    refine lv_iload hx hb dX9_raises_25 (lv_at hl 0 rfl) ?_
    refine lv_goto (tgt := 31) hx hb dX9_raises_27 (by decide) ?_
    refine lv_istore (lv' := [(4, .int ((f (26 + (7 * b))) - (f ((26 + (7 * b)) + 2)))), (3, .int (26 + (7 * (nI b)))), (0, .ref a), (1, .int (nI b)), (2, .int left)]) hx hb dX9_raises_31 hl (by decide) rfl (fun ls hl => ?_)
    have hls := hl.1
    refine lv_iload hx hb dX9_raises_33 (lv_at hl 0 rfl) ?_
    refine lv_aload_n hx hb dX9_raises_35 rfl (lv_at hl 2 rfl) ?_
    refine zc_ro (zr_S (As := [.ref a]) (rest := [.int ((f (26 + (7 * b))) - (f ((26 + (7 * b)) + 2)))]) X (m_X9_siltIn l g a f r (by omega) (by first | exact h5c | exact h5 | (simp (disch := omega) only [upd_n]; first | exact h5c | exact h5))) zL_RX9_81 (zH.cons (va_P.one (hW.H.at 0 0 rfl rfl)) zH.nil) hS hA0 hls rfl (Nat.le_of_ble_eq_true rfl) ⟨rfl, rfl, Nat.le_of_ble_eq_true rfl, Nat.le_of_ble_eq_true rfl, (Nat.le_of_ble_eq_true rfl), (Nat.le_of_ble_eq_true rfl)⟩ dX9_raises_36) ?_
    refine lv_icmp_ge (tgt := 47) hx hb dX9_raises_39 (by decide) (fun c39_2 => ?_) (fun c39_2 => ?_)
    · skip
      refine lv_aload_n hx hb dX9_raises_47 rfl (lv_at hl 2 rfl) ?_
      refine zc_ro (zr_S (As := [.ref a]) (rest := []) X (m_X9_siltIn l g a f r (by omega) (by first | exact h5c | exact h5 | (simp (disch := omega) only [upd_n]; first | exact h5c | exact h5))) zL_RX9_81 (zH.cons (va_P.one (hW.H.at 0 0 rfl rfl)) zH.nil) hS hA0 hls rfl (Nat.le_of_ble_eq_true rfl) ⟨rfl, rfl, Nat.le_of_ble_eq_true rfl, Nat.le_of_ble_eq_true rfl, (Nat.le_of_ble_eq_true rfl), (Nat.le_of_ble_eq_true rfl)⟩ dX9_raises_48) ?_
      refine lv_istore (lv' := [(4, .int (f (8 + 3 * r))), (3, .int (26 + (7 * (nI b)))), (0, .ref a), (1, .int (nI b)), (2, .int left)]) hx hb dX9_raises_51 hl (by decide) rfl (fun ls hl => ?_)
      have hls := hl.1
      refine lv_aload_n hx hb dX9_raises_53 rfl (lv_at hl 2 rfl) ?_
      refine lv_iload_n hx hb dX9_raises_54 rfl (lv_at hl 1 rfl) ?_
      refine lv_iconst (v := 2) hx hb dX9_raises_55 rfl ?_
      refine lv_iadd hx hb dX9_raises_56 ?_
      refine lv_dup2_11 hx hb dX9_raises_57 rfl rfl ?_
      refine z_iald X (j := (26 + (7 * b)) + 2) (hW.H.at 0 0 rfl rfl) (zx_add (zx_add rfl (zx_mul rfl rfl)) rfl) (by omega) (by decide) dX9_raises_58 ?_
      refine lv_iload hx hb dX9_raises_59 (lv_at hl 0 rfl) ?_
      refine lv_iadd hx hb dX9_raises_61 ?_
      refine z_iast X (j := (26 + (7 * b)) + 2) hW hS 0 0 rfl rfl (zx_add (zx_add rfl (zx_mul rfl rfl)) rfl) (by omega) (by decide) dX9_raises_62 (fun H locs hW hS => ?_)
      have hW : zW g A ([[(a, .inl (g.2.1 0, 89, .inl (upd f ((26 + (7 * b)) + 2) ((f ((26 + (7 * b)) + 2)) + (f (8 + 3 * r))))))]] : List va_W) H := hW
      refine lv_aload_n hx hb dX9_raises_63 rfl (lv_at hl 2 rfl) ?_
      refine lv_bipush (v := 8) hx hb dX9_raises_64 (by decide) ?_
      refine lv_iconst (v := 3) hx hb dX9_raises_66 rfl ?_
      refine lv_aload_n hx hb dX9_raises_67 rfl (lv_at hl 2 rfl) ?_
      refine lv_iconst (v := 5) hx hb dX9_raises_68 rfl ?_
      refine z_iald X (j := 5) (hW.H.at 0 0 rfl rfl) rfl (by omega) (by decide) dX9_raises_69 ?_
      refine z_stk (b := [.int (nI r), .int 3, .int 8, .ref a]) (by rw [show ((upd f ((26 + (7 * b)) + 2) ((f ((26 + (7 * b)) + 2)) + (f (8 + 3 * r)))) 5) = nI r from (by first | exact h5c | exact h5 | (simp (disch := omega) only [upd_n]; first | exact h5c | exact h5))]) ?_
      refine lv_imul hx hb dX9_raises_70 ?_
      refine lv_iadd hx hb dX9_raises_71 ?_
      refine lv_dup2_11 hx hb dX9_raises_72 rfl rfl ?_
      refine z_iald X (j := 8 + (3 * r)) (hW.H.at 0 0 rfl rfl) (zx_add rfl (zx_mul rfl rfl)) (by omega) (by decide) dX9_raises_73 ?_
      refine lv_iload hx hb dX9_raises_74 (lv_at hl 0 rfl) ?_
      refine lv_isub hx hb dX9_raises_76 ?_
      refine z_iast X (j := 8 + (3 * r)) hW hS 0 0 rfl rfl (zx_add rfl (zx_mul rfl rfl)) (by omega) (by decide) dX9_raises_77 (fun H locs hW hS => ?_)
      have hW : zW g A ([[(a, .inl (g.2.1 0, 89, .inl (upd (upd f ((26 + (7 * b)) + 2) ((f ((26 + (7 * b)) + 2)) + (f (8 + 3 * r)))) (8 + (3 * r)) (((upd f ((26 + (7 * b)) + 2) ((f ((26 + (7 * b)) + 2)) + (f (8 + 3 * r)))) (8 + (3 * r))) - (f (8 + 3 * r))))))]] : List va_W) H := hW
      refine lv_aload_n hx hb dX9_raises_78 rfl (lv_at hl 2 rfl) ?_
      refine lv_bipush (v := 8) hx hb dX9_raises_79 (by decide) ?_
      refine lv_iconst (v := 3) hx hb dX9_raises_81 rfl ?_
      refine lv_aload_n hx hb dX9_raises_82 rfl (lv_at hl 2 rfl) ?_
      refine lv_iconst (v := 5) hx hb dX9_raises_83 rfl ?_
      refine z_iald X (j := 5) (hW.H.at 0 0 rfl rfl) rfl (by omega) (by decide) dX9_raises_84 ?_
      refine z_stk (b := [.int (nI r), .int 3, .int 8, .ref a]) (by rw [show ((upd (upd f ((26 + (7 * b)) + 2) ((f ((26 + (7 * b)) + 2)) + (f (8 + 3 * r)))) (8 + (3 * r)) (((upd f ((26 + (7 * b)) + 2) ((f ((26 + (7 * b)) + 2)) + (f (8 + 3 * r)))) (8 + (3 * r))) - (f (8 + 3 * r)))) 5) = nI r from (by first | exact h5c | exact h5 | (simp (disch := omega) only [upd_n]; first | exact h5c | exact h5))]) ?_
      refine lv_imul hx hb dX9_raises_85 ?_
      refine lv_iadd hx hb dX9_raises_86 ?_
      refine lv_iconst (v := 1) hx hb dX9_raises_87 rfl ?_
      refine lv_iadd hx hb dX9_raises_88 ?_
      refine lv_dup2_11 hx hb dX9_raises_89 rfl rfl ?_
      refine z_iald X (j := (8 + (3 * r)) + 1) (hW.H.at 0 0 rfl rfl) (zx_add (zx_add rfl (zx_mul rfl rfl)) rfl) (by omega) (by decide) dX9_raises_90 ?_
      refine lv_iload hx hb dX9_raises_91 (lv_at hl 0 rfl) ?_
      refine lv_iadd hx hb dX9_raises_93 ?_
      refine z_iast X (j := (8 + (3 * r)) + 1) hW hS 0 0 rfl rfl (zx_add (zx_add rfl (zx_mul rfl rfl)) rfl) (by omega) (by decide) dX9_raises_94 (fun H locs hW hS => ?_)
      have hW : zW g A ([[(a, .inl (g.2.1 0, 89, .inl (upd (upd (upd f ((26 + (7 * b)) + 2) ((f ((26 + (7 * b)) + 2)) + (f (8 + 3 * r)))) (8 + (3 * r)) (((upd f ((26 + (7 * b)) + 2) ((f ((26 + (7 * b)) + 2)) + (f (8 + 3 * r)))) (8 + (3 * r))) - (f (8 + 3 * r)))) ((8 + (3 * r)) + 1) (((upd (upd f ((26 + (7 * b)) + 2) ((f ((26 + (7 * b)) + 2)) + (f (8 + 3 * r)))) (8 + (3 * r)) (((upd f ((26 + (7 * b)) + 2) ((f ((26 + (7 * b)) + 2)) + (f (8 + 3 * r)))) (8 + (3 * r))) - (f (8 + 3 * r)))) ((8 + (3 * r)) + 1)) + (f (8 + 3 * r))))))]] : List va_W) H := hW
      refine lv_iload hx hb dX9_raises_95 (lv_at hl 0 rfl) ?_
      refine zWR.iret X hAe hW hS hr hlocks ?_ (Nat.le_of_ble_eq_true rfl) (Nat.le_of_ble_eq_true rfl) dX9_raises_97
      refine ⟨?_, ?_⟩
      · simp only [m_rld, c22_0, c39_2, if_true, if_false]
      · simp only [m_rai, m_rld, c22_0, c39_2, if_true, if_false]
    · skip
      refine lv_iload hx hb dX9_raises_42 (lv_at hl 0 rfl) ?_
      refine lv_goto (tgt := 51) hx hb dX9_raises_44 (by decide) ?_
      refine lv_istore (lv' := [(4, .int ((f (26 + (7 * b))) - (f ((26 + (7 * b)) + 2)))), (3, .int (26 + (7 * (nI b)))), (0, .ref a), (1, .int (nI b)), (2, .int left)]) hx hb dX9_raises_51 hl (by decide) rfl (fun ls hl => ?_)
      have hls := hl.1
      refine lv_aload_n hx hb dX9_raises_53 rfl (lv_at hl 2 rfl) ?_
      refine lv_iload_n hx hb dX9_raises_54 rfl (lv_at hl 1 rfl) ?_
      refine lv_iconst (v := 2) hx hb dX9_raises_55 rfl ?_
      refine lv_iadd hx hb dX9_raises_56 ?_
      refine lv_dup2_11 hx hb dX9_raises_57 rfl rfl ?_
      refine z_iald X (j := (26 + (7 * b)) + 2) (hW.H.at 0 0 rfl rfl) (zx_add (zx_add rfl (zx_mul rfl rfl)) rfl) (by omega) (by decide) dX9_raises_58 ?_
      refine lv_iload hx hb dX9_raises_59 (lv_at hl 0 rfl) ?_
      refine lv_iadd hx hb dX9_raises_61 ?_
      refine z_iast X (j := (26 + (7 * b)) + 2) hW hS 0 0 rfl rfl (zx_add (zx_add rfl (zx_mul rfl rfl)) rfl) (by omega) (by decide) dX9_raises_62 (fun H locs hW hS => ?_)
      have hW : zW g A ([[(a, .inl (g.2.1 0, 89, .inl (upd f ((26 + (7 * b)) + 2) ((f ((26 + (7 * b)) + 2)) + ((f (26 + (7 * b))) - (f ((26 + (7 * b)) + 2)))))))]] : List va_W) H := hW
      refine lv_aload_n hx hb dX9_raises_63 rfl (lv_at hl 2 rfl) ?_
      refine lv_bipush (v := 8) hx hb dX9_raises_64 (by decide) ?_
      refine lv_iconst (v := 3) hx hb dX9_raises_66 rfl ?_
      refine lv_aload_n hx hb dX9_raises_67 rfl (lv_at hl 2 rfl) ?_
      refine lv_iconst (v := 5) hx hb dX9_raises_68 rfl ?_
      refine z_iald X (j := 5) (hW.H.at 0 0 rfl rfl) rfl (by omega) (by decide) dX9_raises_69 ?_
      refine z_stk (b := [.int (nI r), .int 3, .int 8, .ref a]) (by rw [show ((upd f ((26 + (7 * b)) + 2) ((f ((26 + (7 * b)) + 2)) + ((f (26 + (7 * b))) - (f ((26 + (7 * b)) + 2))))) 5) = nI r from (by first | exact h5c | exact h5 | (simp (disch := omega) only [upd_n]; first | exact h5c | exact h5))]) ?_
      refine lv_imul hx hb dX9_raises_70 ?_
      refine lv_iadd hx hb dX9_raises_71 ?_
      refine lv_dup2_11 hx hb dX9_raises_72 rfl rfl ?_
      refine z_iald X (j := 8 + (3 * r)) (hW.H.at 0 0 rfl rfl) (zx_add rfl (zx_mul rfl rfl)) (by omega) (by decide) dX9_raises_73 ?_
      refine lv_iload hx hb dX9_raises_74 (lv_at hl 0 rfl) ?_
      refine lv_isub hx hb dX9_raises_76 ?_
      refine z_iast X (j := 8 + (3 * r)) hW hS 0 0 rfl rfl (zx_add rfl (zx_mul rfl rfl)) (by omega) (by decide) dX9_raises_77 (fun H locs hW hS => ?_)
      have hW : zW g A ([[(a, .inl (g.2.1 0, 89, .inl (upd (upd f ((26 + (7 * b)) + 2) ((f ((26 + (7 * b)) + 2)) + ((f (26 + (7 * b))) - (f ((26 + (7 * b)) + 2))))) (8 + (3 * r)) (((upd f ((26 + (7 * b)) + 2) ((f ((26 + (7 * b)) + 2)) + ((f (26 + (7 * b))) - (f ((26 + (7 * b)) + 2))))) (8 + (3 * r))) - ((f (26 + (7 * b))) - (f ((26 + (7 * b)) + 2)))))))]] : List va_W) H := hW
      refine lv_aload_n hx hb dX9_raises_78 rfl (lv_at hl 2 rfl) ?_
      refine lv_bipush (v := 8) hx hb dX9_raises_79 (by decide) ?_
      refine lv_iconst (v := 3) hx hb dX9_raises_81 rfl ?_
      refine lv_aload_n hx hb dX9_raises_82 rfl (lv_at hl 2 rfl) ?_
      refine lv_iconst (v := 5) hx hb dX9_raises_83 rfl ?_
      refine z_iald X (j := 5) (hW.H.at 0 0 rfl rfl) rfl (by omega) (by decide) dX9_raises_84 ?_
      refine z_stk (b := [.int (nI r), .int 3, .int 8, .ref a]) (by rw [show ((upd (upd f ((26 + (7 * b)) + 2) ((f ((26 + (7 * b)) + 2)) + ((f (26 + (7 * b))) - (f ((26 + (7 * b)) + 2))))) (8 + (3 * r)) (((upd f ((26 + (7 * b)) + 2) ((f ((26 + (7 * b)) + 2)) + ((f (26 + (7 * b))) - (f ((26 + (7 * b)) + 2))))) (8 + (3 * r))) - ((f (26 + (7 * b))) - (f ((26 + (7 * b)) + 2))))) 5) = nI r from (by first | exact h5c | exact h5 | (simp (disch := omega) only [upd_n]; first | exact h5c | exact h5))]) ?_
      refine lv_imul hx hb dX9_raises_85 ?_
      refine lv_iadd hx hb dX9_raises_86 ?_
      refine lv_iconst (v := 1) hx hb dX9_raises_87 rfl ?_
      refine lv_iadd hx hb dX9_raises_88 ?_
      refine lv_dup2_11 hx hb dX9_raises_89 rfl rfl ?_
      refine z_iald X (j := (8 + (3 * r)) + 1) (hW.H.at 0 0 rfl rfl) (zx_add (zx_add rfl (zx_mul rfl rfl)) rfl) (by omega) (by decide) dX9_raises_90 ?_
      refine lv_iload hx hb dX9_raises_91 (lv_at hl 0 rfl) ?_
      refine lv_iadd hx hb dX9_raises_93 ?_
      refine z_iast X (j := (8 + (3 * r)) + 1) hW hS 0 0 rfl rfl (zx_add (zx_add rfl (zx_mul rfl rfl)) rfl) (by omega) (by decide) dX9_raises_94 (fun H locs hW hS => ?_)
      have hW : zW g A ([[(a, .inl (g.2.1 0, 89, .inl (upd (upd (upd f ((26 + (7 * b)) + 2) ((f ((26 + (7 * b)) + 2)) + ((f (26 + (7 * b))) - (f ((26 + (7 * b)) + 2))))) (8 + (3 * r)) (((upd f ((26 + (7 * b)) + 2) ((f ((26 + (7 * b)) + 2)) + ((f (26 + (7 * b))) - (f ((26 + (7 * b)) + 2))))) (8 + (3 * r))) - ((f (26 + (7 * b))) - (f ((26 + (7 * b)) + 2))))) ((8 + (3 * r)) + 1) (((upd (upd f ((26 + (7 * b)) + 2) ((f ((26 + (7 * b)) + 2)) + ((f (26 + (7 * b))) - (f ((26 + (7 * b)) + 2))))) (8 + (3 * r)) (((upd f ((26 + (7 * b)) + 2) ((f ((26 + (7 * b)) + 2)) + ((f (26 + (7 * b))) - (f ((26 + (7 * b)) + 2))))) (8 + (3 * r))) - ((f (26 + (7 * b))) - (f ((26 + (7 * b)) + 2))))) ((8 + (3 * r)) + 1)) + ((f (26 + (7 * b))) - (f ((26 + (7 * b)) + 2)))))))]] : List va_W) H := hW
      refine lv_iload hx hb dX9_raises_95 (lv_at hl 0 rfl) ?_
      refine zWR.iret X hAe hW hS hr hlocks ?_ (Nat.le_of_ble_eq_true rfl) (Nat.le_of_ble_eq_true rfl) dX9_raises_97
      refine ⟨?_, ?_⟩
      · simp only [m_rld, c22_0, c39_2, if_true, if_false]
      · simp only [m_rai, m_rld, c22_0, c39_2, if_true, if_false]

abbrev rm_X9_wantsToGo : Room := { frames := 1, cells := 0, slots := 0, locals := 22 }
set_option maxHeartbeats 4000000 in
set_option maxRecDepth 100000 in
theorem m_X9_wantsToGo (l : Launch) (g : zG) (a : Nat) (f : Nat → Int32) (b r : Nat) (hb4 : b < 4) (hr6 : r < 6) (h5 : f 5 = nI r) : zRO l yX9_wantsToGo cX9_wantsToGo 3 (Option.some Jvm.ClassFile.FieldType.boolean) rm_X9_wantsToGo g [.ref a, .int (nI b)] (fun H => zH g ([[(a, .inl (g.2.1 0, 89, .inl f))]] : List va_W) H) (.int (zb (m_wants f b r))) := by
  refine zRO.start (by decide) (Nat.le_of_ble_eq_true rfl) ?_
  intro zp ze s zm zbl zmt zc ls X hr hlocks hP hl hS hA0
  have hx := X.1
  have hb := X.2.1
  have hml := X.2.2.1
  have hown := X.2.2.2.1
  have hls := hl.1
  have hl : lv_has ls 3 [(0, .ref a), (1, .int (nI b))] := hl
  refine lv_aload_n hx hb dX9_wantsToGo_0 rfl (lv_at hl 0 rfl) ?_
  refine lv_iload_n hx hb dX9_wantsToGo_1 rfl (lv_at hl 1 rfl) ?_
  refine lv_iconst (v := 2) hx hb dX9_wantsToGo_2 rfl ?_
  refine zc_ro (zr_S (As := [.ref a, .int (nI b), .int 2]) (rest := []) X (m_X9_bargeIn l g a f b 2 (by omega)) zL_RX9_58 (zH.cons (va_P.one (hP.at 0 0 rfl rfl)) zH.nil) hS hA0 hls rfl (Nat.le_of_ble_eq_true rfl) ⟨rfl, rfl, Nat.le_of_ble_eq_true rfl, Nat.le_of_ble_eq_true rfl, (Nat.le_of_ble_eq_true rfl), (Nat.le_of_ble_eq_true rfl)⟩ dX9_wantsToGo_3) ?_
  refine lv_istore_n (lv' := [(2, .int (m_b f b 2)), (0, .ref a), (1, .int (nI b))]) hx hb dX9_wantsToGo_6 rfl hl (by decide) rfl (fun ls hl => ?_)
  have hls := hl.1
  refine lv_iload_n hx hb dX9_wantsToGo_7 rfl (lv_at hl 0 rfl) ?_
  refine lv_aload_n hx hb dX9_wantsToGo_8 rfl (lv_at hl 1 rfl) ?_
  refine lv_iload_n hx hb dX9_wantsToGo_9 rfl (lv_at hl 2 rfl) ?_
  refine lv_iconst (v := 0) hx hb dX9_wantsToGo_10 rfl ?_
  refine zc_ro (zr_S (As := [.ref a, .int (nI b), .int 0]) (rest := [.int (m_b f b 2)]) X (m_X9_bargeIn l g a f b 0 (by omega)) zL_RX9_58 (zH.cons (va_P.one (hP.at 0 0 rfl rfl)) zH.nil) hS hA0 hls rfl (Nat.le_of_ble_eq_true rfl) ⟨rfl, rfl, Nat.le_of_ble_eq_true rfl, Nat.le_of_ble_eq_true rfl, (Nat.le_of_ble_eq_true rfl), (Nat.le_of_ble_eq_true rfl)⟩ dX9_wantsToGo_11) ?_
  refine lv_icmp_eq (tgt := 28) hx hb dX9_wantsToGo_14 (by decide) (fun c14_0 => ?_) (fun c14_0 => ?_)
  · skip
    refine lv_iconst (v := 1) hx hb dX9_wantsToGo_28 rfl ?_
    refine lv_goto (tgt := 33) hx hb dX9_wantsToGo_29 (by decide) ?_
    refine zRO.zret X hr (zb_nar _) hlocks ?_ dX9_wantsToGo_33
    simp [m_wants, zb, c14_0]
  · skip
    refine lv_iload_n hx hb dX9_wantsToGo_17 rfl (lv_at hl 0 rfl) ?_
    refine lv_if_le (tgt := 32) hx hb dX9_wantsToGo_18 (by decide) (fun c18_1 => ?_) (fun c18_1 => ?_)
    · skip
      refine lv_iconst (v := 0) hx hb dX9_wantsToGo_32 rfl ?_
      refine zRO.zret X hr (zb_nar _) hlocks ?_ dX9_wantsToGo_33
      simp [m_wants, zb, c14_0, c18_1]
    · skip
      refine lv_aload_n hx hb dX9_wantsToGo_21 rfl (lv_at hl 1 rfl) ?_
      refine zc_ro (zr_S (As := [.ref a]) (rest := []) X (m_X9_siltIn l g a f r (by omega) (by first | exact h5c | exact h5 | (simp (disch := omega) only [upd_n]; first | exact h5c | exact h5))) zL_RX9_81 (zH.cons (va_P.one (hP.at 0 0 rfl rfl)) zH.nil) hS hA0 hls rfl (Nat.le_of_ble_eq_true rfl) ⟨rfl, rfl, Nat.le_of_ble_eq_true rfl, Nat.le_of_ble_eq_true rfl, (Nat.le_of_ble_eq_true rfl), (Nat.le_of_ble_eq_true rfl)⟩ dX9_wantsToGo_22) ?_
      refine lv_if_ne (tgt := 32) hx hb dX9_wantsToGo_25 (by decide) (fun c25_2 => ?_) (fun c25_2 => ?_)
      · skip
        refine lv_iconst (v := 0) hx hb dX9_wantsToGo_32 rfl ?_
        refine zRO.zret X hr (zb_nar _) hlocks ?_ dX9_wantsToGo_33
        simp [m_wants, zb, c14_0, c18_1, c25_2]
      · skip
        refine lv_iconst (v := 1) hx hb dX9_wantsToGo_28 rfl ?_
        refine lv_goto (tgt := 33) hx hb dX9_wantsToGo_29 (by decide) ?_
        refine zRO.zret X hr (zb_nar _) hlocks ?_ dX9_wantsToGo_33
        simp [m_wants, zb, c14_0, c18_1, c25_2]

abbrev rm_X9_goal : Room := { frames := 3, cells := 0, slots := 0, locals := 68 }
set_option maxHeartbeats 4000000 in
set_option maxRecDepth 100000 in
theorem m_X9_goal (l : Launch) (g : zG) (a : Nat) (f : Nat → Int32) (b n : Nat) (hb4 : b < 4) (hn : n ≤ 4) (h6 : f 6 = nI n) : zRO l yX9_goal cX9_goal 2 (Option.some Jvm.ClassFile.FieldType.int) rm_X9_goal g [.ref a, .int (nI b)] (fun H => zH g ([[(a, .inl (g.2.1 0, 89, .inl f))]] : List va_W) H) (.int (m_goal f n b)) := by
  refine zRO.start (by decide) (Nat.le_of_ble_eq_true rfl) ?_
  intro zp ze s zm zbl zmt zc ls X hr hlocks hP hl hS hA0
  have hx := X.1
  have hb := X.2.1
  have hml := X.2.2.1
  have hown := X.2.2.2.1
  have hls := hl.1
  have hl : lv_has ls 2 [(0, .ref a), (1, .int (nI b))] := hl
  refine lv_aload_n hx hb dX9_goal_0 rfl (lv_at hl 0 rfl) ?_
  refine lv_iload_n hx hb dX9_goal_1 rfl (lv_at hl 1 rfl) ?_
  refine lv_iconst (v := 5) hx hb dX9_goal_2 rfl ?_
  refine zc_ro (zr_S (As := [.ref a, .int (nI b), .int 5]) (rest := []) X (m_X9_bargeIn l g a f b 5 (by omega)) zL_RX9_58 (zH.cons (va_P.one (hP.at 0 0 rfl rfl)) zH.nil) hS hA0 hls rfl (Nat.le_of_ble_eq_true rfl) ⟨rfl, rfl, Nat.le_of_ble_eq_true rfl, Nat.le_of_ble_eq_true rfl, (Nat.le_of_ble_eq_true rfl), (Nat.le_of_ble_eq_true rfl)⟩ dX9_goal_3) ?_
  refine lv_iconst (v := (-1)) hx hb dX9_goal_6 rfl ?_
  refine lv_icmp_eq (tgt := 19) hx hb dX9_goal_7 (by decide) (fun c7_0 => ?_) (fun c7_0 => ?_)
  · skip
    refine lv_aload_n hx hb dX9_goal_19 rfl (lv_at hl 0 rfl) ?_
    refine zc_ro (zr_S (As := [.ref a]) (rest := []) X (m_X9_bestOf l g a f n (by omega) (by first | exact h6c | exact h6 | (simp (disch := omega) only [upd_n]; first | exact h6c | exact h6))) zL_RX9_85 (zH.cons (va_P.one (hP.at 0 0 rfl rfl)) zH.nil) hS hA0 hls rfl (Nat.le_of_ble_eq_true rfl) ⟨rfl, rfl, Nat.le_of_ble_eq_true rfl, Nat.le_of_ble_eq_true rfl, (Nat.le_of_ble_eq_true rfl), (Nat.le_of_ble_eq_true rfl)⟩ dX9_goal_20) ?_
    refine zRO.iret X hr hlocks ?_ dX9_goal_23
    simp only [m_goal, c7_0, if_true, if_false]
  · skip
    refine lv_aload_n hx hb dX9_goal_10 rfl (lv_at hl 0 rfl) ?_
    refine lv_iload_n hx hb dX9_goal_11 rfl (lv_at hl 1 rfl) ?_
    refine lv_iconst (v := 5) hx hb dX9_goal_12 rfl ?_
    refine zc_ro (zr_S (As := [.ref a, .int (nI b), .int 5]) (rest := []) X (m_X9_bargeIn l g a f b 5 (by omega)) zL_RX9_58 (zH.cons (va_P.one (hP.at 0 0 rfl rfl)) zH.nil) hS hA0 hls rfl (Nat.le_of_ble_eq_true rfl) ⟨rfl, rfl, Nat.le_of_ble_eq_true rfl, Nat.le_of_ble_eq_true rfl, (Nat.le_of_ble_eq_true rfl), (Nat.le_of_ble_eq_true rfl)⟩ dX9_goal_13) ?_
    refine lv_goto (tgt := 23) hx hb dX9_goal_16 (by decide) ?_
    refine zRO.iret X hr hlocks ?_ dX9_goal_23
    simp only [m_goal, c7_0, if_true, if_false]

abbrev rm_X9_goes : Room := { frames := 4, cells := 0, slots := 0, locals := 89 }
set_option maxHeartbeats 4000000 in
set_option maxRecDepth 100000 in
theorem m_X9_goes (l : Launch) (g : zG) (a : Nat) (f : Nat → Int32) (b n : Nat) (hb4 : b < 4) (hn : n ≤ 4) (h6 : f 6 = nI n) (sz : Nat) : zWR l yX9_goes cX9_goes 4 (Option.none : Option Jvm.ClassFile.FieldType) rm_X9_goes g [.ref a, .int (nI b)] ([[(a, .inl (g.2.1 0, 89, .inl f))]] : List va_W) 0 0 sz (fun zv gs' => zv = none ∧ gs' = [[(a, .inl (g.2.1 0, 89, .inl (m_goes f n b)))]]) := by
  refine zWR.start (by decide) (Nat.le_of_ble_eq_true rfl) ?_
  intro zp ze s zm zbl zmt zc ls A X hr hlocks hinn hl hAe hW hS hA hA0
  have hx := X.1
  have hb := X.2.1
  have hml := X.2.2.1
  have hown := X.2.2.2.1
  have hls := hl.1
  have hl : lv_has ls 4 [(0, .ref a), (1, .int (nI b))] := hl
  refine lv_aload_n hx hb dX9_goes_0 rfl (lv_at hl 0 rfl) ?_
  refine lv_iload_n hx hb dX9_goes_1 rfl (lv_at hl 1 rfl) ?_
  refine zc_ro (zr_S (As := [.ref a, .int (nI b)]) (rest := []) X (m_X9_goal l g a f b n (by omega) (by omega) (by first | exact h6c | exact h6 | (simp (disch := omega) only [upd_n]; first | exact h6c | exact h6))) zL_RX9_88 (zH.cons (va_P.one (hW.H.at 0 0 rfl rfl)) zH.nil) hS hA0 hls rfl (Nat.le_of_ble_eq_true rfl) ⟨rfl, rfl, Nat.le_of_ble_eq_true rfl, Nat.le_of_ble_eq_true rfl, (Nat.le_of_ble_eq_true rfl), (Nat.le_of_ble_eq_true rfl)⟩ dX9_goes_2) ?_
  refine lv_istore_n (lv' := [(2, .int (m_goal f n b)), (0, .ref a), (1, .int (nI b))]) hx hb dX9_goes_5 rfl hl (by decide) rfl (fun ls hl => ?_)
  have hls := hl.1
  refine lv_iload_n hx hb dX9_goes_6 rfl (lv_at hl 0 rfl) ?_
  refine lv_iconst (v := (-1)) hx hb dX9_goes_7 rfl ?_
  refine lv_icmp_eq (tgt := 41) hx hb dX9_goes_8 (by decide) (fun c8_0 => ?_) (fun c8_0 => ?_)
  · skip
    refine zWR.vret X hAe hW hS hr hlocks ?_ (Nat.le_of_ble_eq_true rfl) (Nat.le_of_ble_eq_true rfl) dX9_goes_41
    refine ⟨rfl, ?_⟩
    simp only [m_goes, c8_0, if_true, if_false]
  · skip
    refine lv_bipush (v := 26) hx hb dX9_goes_11 (by decide) ?_
    refine lv_bipush (v := 7) hx hb dX9_goes_13 (by decide) ?_
    refine lv_iload_n hx hb dX9_goes_15 rfl (lv_at hl 2 rfl) ?_
    refine lv_imul hx hb dX9_goes_16 ?_
    refine lv_iadd hx hb dX9_goes_17 ?_
    refine lv_istore_n (lv' := [(3, .int (26 + (7 * (nI b)))), (2, .int (m_goal f n b)), (0, .ref a), (1, .int (nI b))]) hx hb dX9_goes_18 rfl hl (by decide) rfl (fun ls hl => ?_)
    have hls := hl.1
    refine lv_aload_n hx hb dX9_goes_19 rfl (lv_at hl 2 rfl) ?_
    refine lv_iload_n hx hb dX9_goes_20 rfl (lv_at hl 0 rfl) ?_
    refine lv_iconst (v := 1) hx hb dX9_goes_21 rfl ?_
    refine lv_iadd hx hb dX9_goes_22 ?_
    refine lv_iconst (v := 1) hx hb dX9_goes_23 rfl ?_
    refine z_iast X (j := (26 + (7 * b)) + 1) hW hS 0 0 rfl rfl (zx_add (zx_add rfl (zx_mul rfl rfl)) rfl) (by omega) (by decide) dX9_goes_24 (fun H locs hW hS => ?_)
    have hW : zW g A ([[(a, .inl (g.2.1 0, 89, .inl (upd f ((26 + (7 * b)) + 1) 1)))]] : List va_W) H := hW
    refine lv_aload_n hx hb dX9_goes_25 rfl (lv_at hl 2 rfl) ?_
    refine lv_iload_n hx hb dX9_goes_26 rfl (lv_at hl 0 rfl) ?_
    refine lv_iconst (v := 3) hx hb dX9_goes_27 rfl ?_
    refine lv_iadd hx hb dX9_goes_28 ?_
    refine lv_iload_n hx hb dX9_goes_29 rfl (lv_at hl 1 rfl) ?_
    refine z_iast X (j := (26 + (7 * b)) + 3) hW hS 0 0 rfl rfl (zx_add (zx_add rfl (zx_mul rfl rfl)) rfl) (by omega) (by decide) dX9_goes_30 (fun H locs hW hS => ?_)
    have hW : zW g A ([[(a, .inl (g.2.1 0, 89, .inl (upd (upd f ((26 + (7 * b)) + 1) 1) ((26 + (7 * b)) + 3) (m_goal f n b))))]] : List va_W) H := hW
    refine lv_aload_n hx hb dX9_goes_31 rfl (lv_at hl 2 rfl) ?_
    refine lv_iload_n hx hb dX9_goes_32 rfl (lv_at hl 0 rfl) ?_
    refine lv_iconst (v := 4) hx hb dX9_goes_33 rfl ?_
    refine lv_iadd hx hb dX9_goes_34 ?_
    refine lv_aload_n hx hb dX9_goes_35 rfl (lv_at hl 2 rfl) ?_
    refine lv_iload_n hx hb dX9_goes_36 rfl (lv_at hl 1 rfl) ?_
    refine zc_ro (zr_S (As := [.ref a, .int (m_goal f n b)]) (rest := [.int ((26 + (7 * (nI b))) + 4), .ref a]) X (m_X9_way l g a (upd (upd f ((26 + (7 * b)) + 1) 1) ((26 + (7 * b)) + 3) (m_goal f n b)) (m_goal f n b)) zL_RX9_72 (zH.cons (va_P.one (hW.H.at 0 0 rfl rfl)) zH.nil) hS hA0 hls rfl (Nat.le_of_ble_eq_true rfl) ⟨rfl, rfl, Nat.le_of_ble_eq_true rfl, Nat.le_of_ble_eq_true rfl, (Nat.le_of_ble_eq_true rfl), (Nat.le_of_ble_eq_true rfl)⟩ dX9_goes_37) ?_
    refine z_iast X (j := (26 + (7 * b)) + 4) hW hS 0 0 rfl rfl (zx_add (zx_add rfl (zx_mul rfl rfl)) rfl) (by omega) (by decide) dX9_goes_40 (fun H locs hW hS => ?_)
    have hW : zW g A ([[(a, .inl (g.2.1 0, 89, .inl (upd (upd (upd f ((26 + (7 * b)) + 1) 1) ((26 + (7 * b)) + 3) (m_goal f n b)) ((26 + (7 * b)) + 4) (m_way (upd (upd f ((26 + (7 * b)) + 1) 1) ((26 + (7 * b)) + 3) (m_goal f n b)) (m_goal f n b)))))]] : List va_W) H := hW
    refine zWR.vret X hAe hW hS hr hlocks ?_ (Nat.le_of_ble_eq_true rfl) (Nat.le_of_ble_eq_true rfl) dX9_goes_41
    refine ⟨rfl, ?_⟩
    simp only [m_goes, c8_0, if_true, if_false]

abbrev rm_X9_raised : Room := { frames := 0, cells := 0, slots := 0, locals := 0 }
set_option maxHeartbeats 4000000 in
set_option maxRecDepth 100000 in
theorem m_X9_raised (l : Launch) (g : zG) (a : Nat) (f : Nat → Int32)  : zRO l yX9_raised cX9_raised 3 (Option.some Jvm.ClassFile.FieldType.int) rm_X9_raised g [.ref a] (fun H => zH g ([[(a, .inl (g.2.1 0, 89, .inl f))]] : List va_W) H) (.int (m_sumR f 1 6)) := by
  refine zRO.start (by decide) (Nat.le_of_ble_eq_true rfl) ?_
  intro zp ze s zm zbl zmt zc ls X hr hlocks hP hl hS hA0
  have hx := X.1
  have hb := X.2.1
  have hml := X.2.2.1
  have hown := X.2.2.2.1
  have hls := hl.1
  have hl : lv_has ls 3 [(0, .ref a)] := hl
  refine lv_iconst (v := 0) hx hb dX9_raised_0 rfl ?_
  refine lv_istore_n (lv' := [(1, .int 0), (0, .ref a)]) hx hb dX9_raised_1 rfl hl (by decide) rfl (fun ls hl => ?_)
  have hls := hl.1
  refine lv_iconst (v := 0) hx hb dX9_raised_2 rfl ?_
  refine lv_istore_n (lv' := [(2, .int 0), (1, .int 0), (0, .ref a)]) hx hb dX9_raised_3 rfl hl (by decide) rfl (fun ls hl => ?_)
  have hls := hl.1
  have hj4 : ∀ (zn j : Nat) (h_le : j ≤ 6) (h_fu : 6 < j + zn) (sm : Int32) (hsm : sm = m_sumR f 1 j) (ls : Array Slot), lv_has ls 3 [(0, .ref a), (1, .int sm), (2, .int (nI j))] → W zp l ze rm_X9_raised s zm ([.ref a] : List Value).toArray zbl zmt zc s.heap [] 0 0 (MQ zbl (zQR (.int (m_sumR f 1 6))) ([.ref a] : List Value).toArray s 0 0 (fun _ => False)) (F0 zm 4 ls []) := by
    intro zn
    induction zn with
    | zero => intro j h_le h_fu; exact absurd h_fu (by omega)
    | succ zn ih4 =>
      intro j h_le h_fu sm hsm ls hl
      have hls := hl.1
      refine lv_iload_n hx hb dX9_raised_4 rfl (lv_at hl 2 rfl) ?_
      refine lv_bipush (v := 6) hx hb dX9_raised_5 (by decide) ?_
      refine lv_icmp_ge (tgt := 29) hx hb dX9_raised_7 (by decide) (fun c7_0 => ?_) (fun c7_0 => ?_)
      · skip
        have kc7_0 := (zn_le (a := 6) (b := j) rfl rfl (by omega) (by omega)).mp c7_0
        refine lv_iload_n hx hb dX9_raised_29 rfl (lv_at hl 1 rfl) ?_
        refine zRO.iret X hr hlocks ?_ dX9_raised_30
        have h6 : j = 6 := by omega
        subst h6
        exact hsm
      · skip
        have kc7_0 := mt (zn_le (a := 6) (b := j) rfl rfl (by omega) (by omega)).mpr c7_0
        refine lv_iload_n hx hb dX9_raised_10 rfl (lv_at hl 1 rfl) ?_
        refine lv_aload_n hx hb dX9_raised_11 rfl (lv_at hl 0 rfl) ?_
        refine lv_bipush (v := 8) hx hb dX9_raised_12 (by decide) ?_
        refine lv_iconst (v := 3) hx hb dX9_raised_14 rfl ?_
        refine lv_iload_n hx hb dX9_raised_15 rfl (lv_at hl 2 rfl) ?_
        refine lv_imul hx hb dX9_raised_16 ?_
        refine lv_iadd hx hb dX9_raised_17 ?_
        refine lv_iconst (v := 1) hx hb dX9_raised_18 rfl ?_
        refine lv_iadd hx hb dX9_raised_19 ?_
        refine z_iald X (j := (8 + (3 * j)) + 1) (hP.at 0 0 rfl rfl) (zx_add (zx_add rfl (zx_mul rfl rfl)) rfl) (by omega) (by decide) dX9_raised_20 ?_
        refine lv_iadd hx hb dX9_raised_21 ?_
        refine lv_istore_n (lv' := [(1, .int (sm + (f ((8 + (3 * j)) + 1)))), (0, .ref a), (2, .int (nI j))]) hx hb dX9_raised_22 rfl hl (by decide) rfl (fun ls hl => ?_)
        have hls := hl.1
        refine lv_iinc (v := nI (j + 1)) (lv' := [(2, .int (nI (j + 1))), (1, .int (sm + (f ((8 + (3 * j)) + 1)))), (0, .ref a)]) hx hb dX9_raised_23 hl (k := 2) rfl (zx_add rfl rfl) (by decide) rfl (fun ls hl => ?_)
        have hls := hl.1
        refine lv_goto (tgt := 4) hx hb dX9_raised_26 (by decide) ?_
        exact ih4 (j + 1) (by omega) (by omega) _ (by rw [hsm]; rfl) _ (lv_sub hl [2, 1, 0] rfl)
  exact hj4 (6 + 1) (0) (by omega) (by omega) _ rfl _ (lv_sub hl [2, 1, 0] rfl)

abbrev rm_X9_allSilt : Room := { frames := 0, cells := 0, slots := 0, locals := 0 }
set_option maxHeartbeats 4000000 in
set_option maxRecDepth 100000 in
theorem m_X9_allSilt (l : Launch) (g : zG) (a : Nat) (f : Nat → Int32)  : zRO l yX9_allSilt cX9_allSilt 3 (Option.some Jvm.ClassFile.FieldType.int) rm_X9_allSilt g [.ref a] (fun H => zH g ([[(a, .inl (g.2.1 0, 89, .inl f))]] : List va_W) H) (.int (m_sumR f 0 6)) := by
  refine zRO.start (by decide) (Nat.le_of_ble_eq_true rfl) ?_
  intro zp ze s zm zbl zmt zc ls X hr hlocks hP hl hS hA0
  have hx := X.1
  have hb := X.2.1
  have hml := X.2.2.1
  have hown := X.2.2.2.1
  have hls := hl.1
  have hl : lv_has ls 3 [(0, .ref a)] := hl
  refine lv_iconst (v := 0) hx hb dX9_allSilt_0 rfl ?_
  refine lv_istore_n (lv' := [(1, .int 0), (0, .ref a)]) hx hb dX9_allSilt_1 rfl hl (by decide) rfl (fun ls hl => ?_)
  have hls := hl.1
  refine lv_iconst (v := 0) hx hb dX9_allSilt_2 rfl ?_
  refine lv_istore_n (lv' := [(2, .int 0), (1, .int 0), (0, .ref a)]) hx hb dX9_allSilt_3 rfl hl (by decide) rfl (fun ls hl => ?_)
  have hls := hl.1
  have hj4 : ∀ (zn j : Nat) (h_le : j ≤ 6) (h_fu : 6 < j + zn) (sm : Int32) (hsm : sm = m_sumR f 0 j) (ls : Array Slot), lv_has ls 3 [(0, .ref a), (1, .int sm), (2, .int (nI j))] → W zp l ze rm_X9_allSilt s zm ([.ref a] : List Value).toArray zbl zmt zc s.heap [] 0 0 (MQ zbl (zQR (.int (m_sumR f 0 6))) ([.ref a] : List Value).toArray s 0 0 (fun _ => False)) (F0 zm 4 ls []) := by
    intro zn
    induction zn with
    | zero => intro j h_le h_fu; exact absurd h_fu (by omega)
    | succ zn ih4 =>
      intro j h_le h_fu sm hsm ls hl
      have hls := hl.1
      refine lv_iload_n hx hb dX9_allSilt_4 rfl (lv_at hl 2 rfl) ?_
      refine lv_bipush (v := 6) hx hb dX9_allSilt_5 (by decide) ?_
      refine lv_icmp_ge (tgt := 27) hx hb dX9_allSilt_7 (by decide) (fun c7_0 => ?_) (fun c7_0 => ?_)
      · skip
        have kc7_0 := (zn_le (a := 6) (b := j) rfl rfl (by omega) (by omega)).mp c7_0
        refine lv_iload_n hx hb dX9_allSilt_27 rfl (lv_at hl 1 rfl) ?_
        refine zRO.iret X hr hlocks ?_ dX9_allSilt_28
        have h6 : j = 6 := by omega
        subst h6
        exact hsm
      · skip
        have kc7_0 := mt (zn_le (a := 6) (b := j) rfl rfl (by omega) (by omega)).mpr c7_0
        refine lv_iload_n hx hb dX9_allSilt_10 rfl (lv_at hl 1 rfl) ?_
        refine lv_aload_n hx hb dX9_allSilt_11 rfl (lv_at hl 0 rfl) ?_
        refine lv_bipush (v := 8) hx hb dX9_allSilt_12 (by decide) ?_
        refine lv_iconst (v := 3) hx hb dX9_allSilt_14 rfl ?_
        refine lv_iload_n hx hb dX9_allSilt_15 rfl (lv_at hl 2 rfl) ?_
        refine lv_imul hx hb dX9_allSilt_16 ?_
        refine lv_iadd hx hb dX9_allSilt_17 ?_
        refine z_iald X (j := 8 + (3 * j)) (hP.at 0 0 rfl rfl) (zx_add rfl (zx_mul rfl rfl)) (by omega) (by decide) dX9_allSilt_18 ?_
        refine lv_iadd hx hb dX9_allSilt_19 ?_
        refine lv_istore_n (lv' := [(1, .int (sm + (f (8 + (3 * j))))), (0, .ref a), (2, .int (nI j))]) hx hb dX9_allSilt_20 rfl hl (by decide) rfl (fun ls hl => ?_)
        have hls := hl.1
        refine lv_iinc (v := nI (j + 1)) (lv' := [(2, .int (nI (j + 1))), (1, .int (sm + (f (8 + (3 * j))))), (0, .ref a)]) hx hb dX9_allSilt_21 hl (k := 2) rfl (zx_add rfl rfl) (by decide) rfl (fun ls hl => ?_)
        have hls := hl.1
        refine lv_goto (tgt := 4) hx hb dX9_allSilt_24 (by decide) ?_
        exact ih4 (j + 1) (by omega) (by omega) _ (by rw [hsm]; rfl) _ (lv_sub hl [2, 1, 0] rfl)
  exact hj4 (6 + 1) (0) (by omega) (by omega) _ rfl _ (lv_sub hl [2, 1, 0] rfl)

abbrev rm_X9_onMeadows : Room := { frames := 1, cells := 0, slots := 0, locals := 22 }
set_option maxHeartbeats 4000000 in
set_option maxRecDepth 100000 in
theorem m_X9_onMeadows (l : Launch) (g : zG) (a : Nat) (f : Nat → Int32)  : zRO l yX9_onMeadows cX9_onMeadows 3 (Option.some Jvm.ClassFile.FieldType.int) rm_X9_onMeadows g [.ref a] (fun H => zH g ([[(a, .inl (g.2.1 0, 89, .inl f))]] : List va_W) H) (.int (m_sumM f 1 5)) := by
  refine zRO.start (by decide) (Nat.le_of_ble_eq_true rfl) ?_
  intro zp ze s zm zbl zmt zc ls X hr hlocks hP hl hS hA0
  have hx := X.1
  have hb := X.2.1
  have hml := X.2.2.1
  have hown := X.2.2.2.1
  have hls := hl.1
  have hl : lv_has ls 3 [(0, .ref a)] := hl
  refine lv_iconst (v := 0) hx hb dX9_onMeadows_0 rfl ?_
  refine lv_istore_n (lv' := [(1, .int 0), (0, .ref a)]) hx hb dX9_onMeadows_1 rfl hl (by decide) rfl (fun ls hl => ?_)
  have hls := hl.1
  refine lv_iconst (v := 0) hx hb dX9_onMeadows_2 rfl ?_
  refine lv_istore_n (lv' := [(2, .int 0), (1, .int 0), (0, .ref a)]) hx hb dX9_onMeadows_3 rfl hl (by decide) rfl (fun ls hl => ?_)
  have hls := hl.1
  have hj4 : ∀ (zn j : Nat) (h_le : j ≤ 5) (h_fu : 5 < j + zn) (sm : Int32) (hsm : sm = m_sumM f 1 j) (ls : Array Slot), lv_has ls 3 [(0, .ref a), (1, .int sm), (2, .int (nI j))] → W zp l ze rm_X9_onMeadows s zm ([.ref a] : List Value).toArray zbl zmt zc s.heap [] 0 0 (MQ zbl (zQR (.int (m_sumM f 1 5))) ([.ref a] : List Value).toArray s 0 0 (fun _ => False)) (F0 zm 4 ls []) := by
    intro zn
    induction zn with
    | zero => intro j h_le h_fu; exact absurd h_fu (by omega)
    | succ zn ih4 =>
      intro j h_le h_fu sm hsm ls hl
      have hls := hl.1
      refine lv_iload_n hx hb dX9_onMeadows_4 rfl (lv_at hl 2 rfl) ?_
      refine lv_iconst (v := 5) hx hb dX9_onMeadows_5 rfl ?_
      refine lv_icmp_ge (tgt := 24) hx hb dX9_onMeadows_6 (by decide) (fun c6_0 => ?_) (fun c6_0 => ?_)
      · skip
        have kc6_0 := (zn_le (a := 5) (b := j) rfl rfl (by omega) (by omega)).mp c6_0
        refine lv_iload_n hx hb dX9_onMeadows_24 rfl (lv_at hl 1 rfl) ?_
        refine zRO.iret X hr hlocks ?_ dX9_onMeadows_25
        have h6 : j = 5 := by omega
        subst h6
        exact hsm
      · skip
        have kc6_0 := mt (zn_le (a := 5) (b := j) rfl rfl (by omega) (by omega)).mpr c6_0
        refine lv_iload_n hx hb dX9_onMeadows_9 rfl (lv_at hl 1 rfl) ?_
        refine lv_aload_n hx hb dX9_onMeadows_10 rfl (lv_at hl 0 rfl) ?_
        refine lv_iload_n hx hb dX9_onMeadows_11 rfl (lv_at hl 2 rfl) ?_
        refine lv_iconst (v := 1) hx hb dX9_onMeadows_12 rfl ?_
        refine zc_ro (zr_S (As := [.ref a, .int (nI j), .int 1]) (rest := [.int sm]) X (m_X9_meadowIn l g a f j 1 (by omega)) zL_RX9_54 (zH.cons (va_P.one (hP.at 0 0 rfl rfl)) zH.nil) hS hA0 hls rfl (Nat.le_of_ble_eq_true rfl) ⟨rfl, rfl, Nat.le_of_ble_eq_true rfl, Nat.le_of_ble_eq_true rfl, (Nat.le_of_ble_eq_true rfl), (Nat.le_of_ble_eq_true rfl)⟩ dX9_onMeadows_13) ?_
        refine lv_iadd hx hb dX9_onMeadows_16 ?_
        refine lv_istore_n (lv' := [(1, .int (sm + (m_m f j 1))), (0, .ref a), (2, .int (nI j))]) hx hb dX9_onMeadows_17 rfl hl (by decide) rfl (fun ls hl => ?_)
        have hls := hl.1
        refine lv_iinc (v := nI (j + 1)) (lv' := [(2, .int (nI (j + 1))), (1, .int (sm + (m_m f j 1))), (0, .ref a)]) hx hb dX9_onMeadows_18 hl (k := 2) rfl (zx_add rfl rfl) (by decide) rfl (fun ls hl => ?_)
        have hls := hl.1
        refine lv_goto (tgt := 4) hx hb dX9_onMeadows_21 (by decide) ?_
        exact ih4 (j + 1) (by omega) (by omega) _ (by rw [hsm]; rfl) _ (lv_sub hl [2, 1, 0] rfl)
  exact hj4 (5 + 1) (0) (by omega) (by omega) _ rfl _ (lv_sub hl [2, 1, 0] rfl)

abbrev rm_X9_ofBarges : Room := { frames := 1, cells := 0, slots := 0, locals := 22 }
set_option maxHeartbeats 4000000 in
set_option maxRecDepth 100000 in
theorem m_X9_ofBarges (l : Launch) (g : zG) (a : Nat) (f : Nat → Int32) (w n : Nat) (hw : w < 7) (hn : n ≤ 4) (h6 : f 6 = nI n) : zRO l yX9_ofBarges cX9_ofBarges 4 (Option.some Jvm.ClassFile.FieldType.int) rm_X9_ofBarges g [.ref a, .int (nI w)] (fun H => zH g ([[(a, .inl (g.2.1 0, 89, .inl f))]] : List va_W) H) (.int (m_sumB f w n)) := by
  refine zRO.start (by decide) (Nat.le_of_ble_eq_true rfl) ?_
  intro zp ze s zm zbl zmt zc ls X hr hlocks hP hl hS hA0
  have hx := X.1
  have hb := X.2.1
  have hml := X.2.2.1
  have hown := X.2.2.2.1
  have hls := hl.1
  have hl : lv_has ls 4 [(0, .ref a), (1, .int (nI w))] := hl
  refine lv_iconst (v := 0) hx hb dX9_ofBarges_0 rfl ?_
  refine lv_istore_n (lv' := [(2, .int 0), (0, .ref a), (1, .int (nI w))]) hx hb dX9_ofBarges_1 rfl hl (by decide) rfl (fun ls hl => ?_)
  have hls := hl.1
  refine lv_iconst (v := 0) hx hb dX9_ofBarges_2 rfl ?_
  refine lv_istore_n (lv' := [(3, .int 0), (2, .int 0), (0, .ref a), (1, .int (nI w))]) hx hb dX9_ofBarges_3 rfl hl (by decide) rfl (fun ls hl => ?_)
  have hls := hl.1
  have hj4 : ∀ (zn j : Nat) (h_le : j ≤ n) (h_fu : n < j + zn) (sm : Int32) (hsm : sm = m_sumB f w j) (ls : Array Slot), lv_has ls 4 [(0, .ref a), (1, .int (nI w)), (2, .int sm), (3, .int (nI j))] → W zp l ze rm_X9_ofBarges s zm ([.ref a, .int (nI w)] : List Value).toArray zbl zmt zc s.heap [] 0 0 (MQ zbl (zQR (.int (m_sumB f w n))) ([.ref a, .int (nI w)] : List Value).toArray s 0 0 (fun _ => False)) (F0 zm 4 ls []) := by
    intro zn
    induction zn with
    | zero => intro j h_le h_fu; exact absurd h_fu (by omega)
    | succ zn ih4 =>
      intro j h_le h_fu sm hsm ls hl
      have hls := hl.1
      refine lv_iload_n hx hb dX9_ofBarges_4 rfl (lv_at hl 3 rfl) ?_
      refine lv_aload_n hx hb dX9_ofBarges_5 rfl (lv_at hl 0 rfl) ?_
      refine lv_bipush (v := 6) hx hb dX9_ofBarges_6 (by decide) ?_
      refine z_iald X (j := 6) (hP.at 0 0 rfl rfl) rfl (by omega) (by decide) dX9_ofBarges_8 ?_
      refine z_stk (b := [.int (nI n), .int (nI j)]) (by rw [show (f 6) = nI n from h6]) ?_
      refine lv_icmp_ge (tgt := 27) hx hb dX9_ofBarges_9 (by decide) (fun c9_0 => ?_) (fun c9_0 => ?_)
      · skip
        have kc9_0 := (zn_le (a := n) (b := j) rfl rfl (by omega) (by omega)).mp c9_0
        refine lv_iload_n hx hb dX9_ofBarges_27 rfl (lv_at hl 2 rfl) ?_
        refine zRO.iret X hr hlocks ?_ dX9_ofBarges_28
        have h6 : j = n := by omega
        subst h6
        exact hsm
      · skip
        have kc9_0 := mt (zn_le (a := n) (b := j) rfl rfl (by omega) (by omega)).mpr c9_0
        refine lv_iload_n hx hb dX9_ofBarges_12 rfl (lv_at hl 2 rfl) ?_
        refine lv_aload_n hx hb dX9_ofBarges_13 rfl (lv_at hl 0 rfl) ?_
        refine lv_iload_n hx hb dX9_ofBarges_14 rfl (lv_at hl 3 rfl) ?_
        refine lv_iload_n hx hb dX9_ofBarges_15 rfl (lv_at hl 1 rfl) ?_
        refine zc_ro (zr_S (As := [.ref a, .int (nI j), .int (nI w)]) (rest := [.int sm]) X (m_X9_bargeIn l g a f j w (by omega)) zL_RX9_58 (zH.cons (va_P.one (hP.at 0 0 rfl rfl)) zH.nil) hS hA0 hls rfl (Nat.le_of_ble_eq_true rfl) ⟨rfl, rfl, Nat.le_of_ble_eq_true rfl, Nat.le_of_ble_eq_true rfl, (Nat.le_of_ble_eq_true rfl), (Nat.le_of_ble_eq_true rfl)⟩ dX9_ofBarges_16) ?_
        refine lv_iadd hx hb dX9_ofBarges_19 ?_
        refine lv_istore_n (lv' := [(2, .int (sm + (m_b f j w))), (0, .ref a), (1, .int (nI w)), (3, .int (nI j))]) hx hb dX9_ofBarges_20 rfl hl (by decide) rfl (fun ls hl => ?_)
        have hls := hl.1
        refine lv_iinc (v := nI (j + 1)) (lv' := [(3, .int (nI (j + 1))), (2, .int (sm + (m_b f j w))), (0, .ref a), (1, .int (nI w))]) hx hb dX9_ofBarges_21 hl (k := 3) rfl (zx_add rfl rfl) (by decide) rfl (fun ls hl => ?_)
        have hls := hl.1
        refine lv_goto (tgt := 4) hx hb dX9_ofBarges_24 (by decide) ?_
        exact ih4 (j + 1) (by omega) (by omega) _ (by rw [hsm]; rfl) _ (lv_sub hl [2, 3, 1, 0] rfl)
  exact hj4 (n + 1) (0) (by omega) (by omega) _ rfl _ (lv_sub hl [2, 3, 1, 0] rfl)
