set_option maxRecDepth 100000
/-! THE REFERENCE's methods as functions over a state's 89 ints -/
def m_in (v lo hi : Int32) : Bool := !decide (v < lo) && !decide (hi < v)
abbrev m_b (f : Nat → Int32) (b w : Nat) : Int32 := f (26 + 7 * b + w)
abbrev m_m (f : Nat → Int32) (m w : Nat) : Int32 := f (54 + 7 * m + w)
def m_runs (f : Nat → Int32) (m : Nat) : Bool := !decide (m_m f m 3 = -1) && m_in (f 4) (m_m f m 3) (m_m f m 4)
def m_stop (f : Nat → Int32) (m : Nat) : Bool := !decide (m_m f m 5 < f 4)
def m_wet (f : Nat → Int32) (m : Nat) : Bool := !decide (m_m f m 2 < f 2)
def m_way (f : Nat → Int32) (x : Int32) : Int32 := 1 + (if 0 ≤ f 5 - x then f 5 - x else -(f 5 - x))
def m_roomL (f : Nat → Int32) (m : Nat) : Nat → Int32
  | 0 => m_m f m 0 - m_m f m 1
  | b + 1 => m_roomL f m b - (if m_in (m_b f b 1) 1 2 && decide (m_b f b 3 = nI m) then m_b f b 2 else 0)
def m_room (f : Nat → Int32) (m n : Nat) : Int32 := if 0 ≤ m_roomL f m n then m_roomL f m n else 0
def m_may (f : Nat → Int32) (n m : Nat) : Bool := m_runs f m && !m_stop f m && !decide (m_room f m n ≤ 0)
def m_bestL (f : Nat → Int32) (n : Nat) : Nat → Int32
  | 0 => -1
  | m + 1 => if m_may f n m && (decide (m_bestL f n m = -1) || !decide (m_way f (m_bestL f n m) ≤ m_way f (nI m))) then nI m else m_bestL f n m
def m_best (f : Nat → Int32) (n : Nat) : Int32 := m_bestL f n 5
def m_open (f : Nat → Int32) (m : Nat) : Bool := m_runs f m && !m_stop f m && !m_wet f m && decide (m_m f m 1 < m_m f m 0)
/-! THE REFERENCE's day -/
theorem upd_n {f : Nat → Int32} {k j : Nat} {x : Int32} (h : j ≠ k) : upd f k x j = f j := if_neg h
theorem upd_s {f : Nat → Int32} {k : Nat} {x : Int32} : upd f k x k = x := if_pos rfl
def m_dry (f : Nat → Int32) (m : Nat) : Nat → Int32 :=
  if m_m f m 6 ≤ 0 then f else if f 4 - f 4 / m_m f m 6 * m_m f m 6 = 0 then upd f (54 + 7 * m + 2) (if 0 ≤ m_m f m 2 - f 3 then m_m f m 2 - f 3 else 0) else f
def m_come (f : Nat → Int32) (b : Nat) : Nat → Int32 :=
  if m_b f b 4 ≤ 0 then f else
  let f1 := upd f (26 + 7 * b + 4) (m_b f b 4 - 1)
  let f2 := upd f1 (26 + 7 * b + 1) (if m_b f1 b 4 ≤ 0 then (if m_b f1 b 1 = 3 then 0 else 2) else m_b f1 b 1)
  upd f2 (26 + 7 * b + 3) (if m_b f2 b 1 = 0 then -1 else m_b f2 b 3)
def m_lds (f : Nat → Int32) (b mm : Nat) (done : Int32) : Int32 :=
  if m_open f mm && decide (done >>> (nI mm &&& 31) &&& 1 = 0) then (if f (26 + 7 * b + 2) ≤ f (54 + 7 * mm) - f (54 + 7 * mm + 1) then f (26 + 7 * b + 2) else f (54 + 7 * mm) - f (54 + 7 * mm + 1)) else 0
def m_lay (f : Nat → Int32) (b mm : Nat) (ld : Int32) : Nat → Int32 :=
  let f1 := upd f (54 + 7 * mm + 1) (f (54 + 7 * mm + 1) + ld)
  let f2 := upd f1 (54 + 7 * mm + 2) (f1 (54 + 7 * mm + 2) + ld)
  let f3 := upd f2 (26 + 7 * b + 2) (f2 (26 + 7 * b + 2) - ld)
  let f4 := upd f3 (26 + 7 * b + 6) (f3 (26 + 7 * b + 6) + ld)
  if f4 (26 + 7 * b + 2) = 0 then upd (upd f4 (26 + 7 * b + 1) 3) (26 + 7 * b + 4) (m_way (upd f4 (26 + 7 * b + 1) 3) (nI mm)) else upd f4 7 (f4 7 + 1)
def m_don (done : Int32) (mm : Nat) (ld : Int32) : Int32 := if ld ≤ 0 then done else done ||| (1 <<< (nI mm &&& 31))
def m_rld (f : Nat → Int32) (b r : Nat) (left : Int32) : Int32 :=
  let l0 := f (26 + 7 * b) - f (26 + 7 * b + 2)
  let l1 := if left ≤ l0 then left else l0
  if f (8 + 3 * r) ≤ l1 then f (8 + 3 * r) else l1
def m_rai (f : Nat → Int32) (b r : Nat) (ld : Int32) : Nat → Int32 :=
  let f1 := upd f (26 + 7 * b + 2) (f (26 + 7 * b + 2) + ld)
  let f2 := upd f1 (8 + 3 * r) (f1 (8 + 3 * r) - ld)
  upd f2 (8 + 3 * r + 1) (f2 (8 + 3 * r + 1) + ld)
def m_wants (f : Nat → Int32) (b r : Nat) : Bool := decide (m_b f b 2 = m_b f b 0) || (!decide (m_b f b 2 ≤ 0) && decide (f (8 + 3 * r) = 0))
def m_goal (f : Nat → Int32) (n b : Nat) : Int32 := if m_b f b 5 = -1 then m_best f n else m_b f b 5
def m_goes (f : Nat → Int32) (n b : Nat) : Nat → Int32 :=
  if m_goal f n b = -1 then f else
  let f2 := upd (upd f (26 + 7 * b + 1) 1) (26 + 7 * b + 3) (m_goal f n b)
  upd f2 (26 + 7 * b + 4) (m_way f2 (m_goal f n b))
def m_dryL (f : Nat → Int32) : Nat → Nat → Int32
  | 0 => f
  | m + 1 => m_dry (m_dryL f m) m
def m_comeL (f : Nat → Int32) : Nat → Nat → Int32
  | 0 => f
  | b + 1 => m_come (m_comeL f b) b
def m_layL (f : Nat → Int32) : Nat → (Nat → Int32) × Int32
  | 0 => (f, 0)
  | b + 1 => let c := m_layL f b; if m_b c.1 b 1 = 2 then (let mm := (m_b c.1 b 3).toNatClampNeg; let ld := m_lds c.1 b mm c.2; (m_lay c.1 b mm ld, m_don c.2 mm ld)) else c
def m_raiL (f : Nat → Int32) (r : Nat) (left : Int32) : Nat → (Nat → Int32) × Int32
  | 0 => (f, left)
  | b + 1 => let c := m_raiL f r left b; if m_b c.1 b 1 = 0 then (let ld := m_rld c.1 b r c.2; (m_rai c.1 b r ld, c.2 - ld)) else (c.1, c.2 - 0)
def m_sendL (f : Nat → Int32) (n r : Nat) : Nat → Nat → Int32
  | 0 => f
  | b + 1 => if m_b (m_sendL f n r b) b 1 = 0 && m_wants (m_sendL f n r b) b r then m_goes (m_sendL f n r b) n b else m_sendL f n r b
def m_slt (f : Nat → Int32) (r : Nat) : Nat → Int32 :=
  let its := f (8 + 3 * r) + f 1
  let f1 := upd f (8 + 3 * r + 2) (f (8 + 3 * r + 2) + (if its ≤ 999 then 0 else its - 999))
  upd f1 (8 + 3 * r) (if its ≤ 999 then its else 999)
def m_sltL (f : Nat → Int32) : Nat → Nat → Int32
  | 0 => f
  | r + 1 => m_slt (m_sltL f r) r
/-- the stages of a day -/
def m_d2 (f : Nat → Int32) (n : Nat) : Nat → Int32 := m_comeL (m_dryL f 5) n
def m_d3 (f : Nat → Int32) (n : Nat) : Nat → Int32 := (m_layL (m_d2 f n) n).1
def m_d4 (f : Nat → Int32) (n r : Nat) : Nat → Int32 := (m_raiL (m_d3 f n) r (m_d3 f n 0) n).1
def m_d5 (f : Nat → Int32) (n r : Nat) : Nat → Int32 := m_sendL (m_d4 f n r) n r n
def m_d6 (f : Nat → Int32) (n r : Nat) : Nat → Int32 := m_sltL (m_d5 f n r) 6
def m_day (f : Nat → Int32) (n r : Nat) : Nat → Int32 := upd (m_d6 f n r) 4 (m_d6 f n r 4 + 1)
def m_clear (f : Nat → Int32) (n r : Nat) : Bool := decide (m_d4 f n r (8 + 3 * r) = 0)
def m_days (f : Nat → Int32) (n r : Nat) : Nat → Nat → Int32
  | 0 => f
  | k + 1 => m_day (m_days f n r k) n r
/-- where a barge is at a meadow, its goal is one -/
def m_layOk (f : Nat → Int32) (n : Nat) : Prop := ∀ b, b < n → m_b (m_layL (m_d2 f n) b).1 b 1 = 2 → ∃ mm, mm < 5 ∧ m_b (m_layL (m_d2 f n) b).1 b 3 = nI mm
/-! the first seven ints stay -/
theorem m_dry_lo {f : Nat → Int32} {m k : Nat} (h : k < 54) : m_dry f m k = f k := by
  unfold m_dry; split
  · rfl
  · split
    · simp (disch := omega) only [upd_n]
    · rfl
theorem m_come_lo {f : Nat → Int32} {b k : Nat} (h : k < 26) : m_come f b k = f k := by
  unfold m_come; split
  · rfl
  · simp (disch := omega) only [upd_n]
theorem m_lay_lo {f : Nat → Int32} {b mm k : Nat} {ld : Int32} (h : k < 7) : m_lay f b mm ld k = f k := by
  unfold m_lay; split <;> simp (disch := omega) only [upd_n]
theorem m_rai_lo {f : Nat → Int32} {b r k : Nat} {ld : Int32} (h : k < 8) : m_rai f b r ld k = f k := by
  unfold m_rai; simp (disch := omega) only [upd_n]
theorem m_goes_lo {f : Nat → Int32} {n b k : Nat} (h : k < 26) : m_goes f n b k = f k := by
  unfold m_goes; split
  · rfl
  · simp (disch := omega) only [upd_n]
theorem m_slt_lo {f : Nat → Int32} {r k : Nat} (h : k < 8) : m_slt f r k = f k := by
  unfold m_slt; simp (disch := omega) only [upd_n]
theorem m_dryL_lo {f : Nat → Int32} {m k : Nat} (h : k < 54) : m_dryL f m k = f k := by
  induction m with
  | zero => rfl
  | succ m ih => exact (m_dry_lo h).trans ih
theorem m_comeL_lo {f : Nat → Int32} {m k : Nat} (h : k < 26) : m_comeL f m k = f k := by
  induction m with
  | zero => rfl
  | succ m ih => exact (m_come_lo h).trans ih
theorem m_layL_lo {f : Nat → Int32} {m k : Nat} (h : k < 7) : (m_layL f m).1 k = f k := by
  induction m with
  | zero => rfl
  | succ m ih =>
    unfold m_layL; dsimp only; split
    · exact (m_lay_lo h).trans ih
    · exact ih
theorem m_raiL_lo {f : Nat → Int32} {r : Nat} {left : Int32} {m k : Nat} (h : k < 8) : (m_raiL f r left m).1 k = f k := by
  induction m with
  | zero => rfl
  | succ m ih =>
    unfold m_raiL; dsimp only; split
    · exact (m_rai_lo h).trans ih
    · exact ih
theorem m_sendL_lo {f : Nat → Int32} {n r m k : Nat} (h : k < 26) : m_sendL f n r m k = f k := by
  induction m with
  | zero => rfl
  | succ m ih =>
    unfold m_sendL; split
    · exact (m_goes_lo h).trans ih
    · exact ih
theorem m_sltL_lo {f : Nat → Int32} {m k : Nat} (h : k < 8) : m_sltL f m k = f k := by
  induction m with
  | zero => rfl
  | succ m ih => exact (m_slt_lo h).trans ih
theorem m_d2_lo {f : Nat → Int32} {n k : Nat} (h : k < 7) : m_d2 f n k = f k := (m_comeL_lo (by omega)).trans (m_dryL_lo (by omega))
theorem m_d3_lo {f : Nat → Int32} {n k : Nat} (h : k < 7) : m_d3 f n k = f k := (m_layL_lo h).trans (m_d2_lo h)
theorem m_d4_lo {f : Nat → Int32} {n r k : Nat} (h : k < 7) : m_d4 f n r k = f k := (m_raiL_lo (by omega)).trans (m_d3_lo h)
theorem m_d5_lo {f : Nat → Int32} {n r k : Nat} (h : k < 7) : m_d5 f n r k = f k := (m_sendL_lo (by omega)).trans (m_d4_lo h)
theorem m_d6_lo {f : Nat → Int32} {n r k : Nat} (h : k < 7) : m_d6 f n r k = f k := (m_sltL_lo (by omega)).trans (m_d5_lo h)
theorem m_day_lo {f : Nat → Int32} {n r k : Nat} (h : k < 7) (h4 : k ≠ 4) : m_day f n r k = f k := (upd_n h4).trans (m_d6_lo h)
theorem m_days_lo {f : Nat → Int32} {n r j k : Nat} (h : k < 7) (h4 : k ≠ 4) : m_days f n r j k = f k := by
  induction j with
  | zero => rfl
  | succ j ih => exact (m_day_lo h h4).trans ih
/-! sums -/
def m_sumR (f : Nat → Int32) (w : Nat) : Nat → Int32
  | 0 => 0
  | r + 1 => m_sumR f w r + f (8 + 3 * r + w)
def m_sumM (f : Nat → Int32) (w : Nat) : Nat → Int32
  | 0 => 0
  | m + 1 => m_sumM f w m + m_m f m w
def m_sumB (f : Nat → Int32) (w : Nat) : Nat → Int32
  | 0 => 0
  | b + 1 => m_sumB f w b + m_b f b w
/-! THE REFERENCE's object -/
theorem m_in_T {a b q : Nat} {lo hi x : Int32} (hx : x = nI q) (hlo : lo = nI a) (hhi : hi = nI b) (h1 : a ≤ q) (h2 : q ≤ b) (hb : b < 2147483648) : m_in x lo hi = true := by
  rw [hx, hlo, hhi]
  unfold m_in
  rw [decide_eq_false (nI_nlt h1 (by omega)), decide_eq_false (nI_nlt h2 hb)]
  rfl
theorem m_in_N {a b : Nat} {lo hi x : Int32} (h : m_in x lo hi = true) (hlo : lo = nI a) (hhi : hi = nI b) (ha : a < 2147483648) (hb : b < 2147483648) : ∃ q, a ≤ q ∧ q ≤ b ∧ x = nI q := by
  unfold m_in at h
  simp only [Bool.and_eq_true, Bool.not_eq_true', decide_eq_false_iff_not] at h
  obtain ⟨h1, h2⟩ := h
  have h0 : ¬ x < 0 := by
    intro h3
    apply h1
    have := nI_pos' (n := a) (by omega)
    rw [hlo]
    exact Int32.lt_of_lt_of_le h3 this
  obtain ⟨j, hj, rfl⟩ := nI_of h0
  refine ⟨j, ?_, ?_, rfl⟩
  · rcases Nat.lt_or_ge j a with q | q
    · exact absurd (by rw [hlo]; exact nI_lt q (by omega)) h1
    · exact q
  · rcases Nat.lt_or_ge b j with q | q
    · exact absurd (by rw [hhi]; exact nI_lt q (by omega)) h2
    · exact q
def m_shl (p : Nat → Int32) (k : Nat) : Nat → Int32 := fun j => if j < k then p (j + 89) else p j
def m_sk (k : Nat) : Nat := if k = 6 then 5 else k
def m_sv (k : Nat) (p : Nat → Int32) : Nat → Int32 := if k = 6 then m_shl p 445 else p
/-- what is kept behind 'saves' -/
def m_save (f : Nat → Int32) (k : Nat) (p : Nat → Int32) : Nat → Int32 := va_cpy f (m_sv k p) 0 (89 * m_sk k) 89
theorem m_cpy_s {f g : Nat → Int32} {sp dp n : Nat} : upd (va_cpy f g sp dp n) (dp + n) (f (sp + n)) = va_cpy f g sp dp (n + 1) := by
  funext j
  unfold upd va_cpy
  by_cases h1 : j = dp + n
  · subst h1
    rw [if_pos rfl, if_pos (by omega)]
    congr 1; omega
  · rw [if_neg h1]
    by_cases h2 : dp ≤ j ∧ j < dp + n
    · rw [if_pos h2, if_pos (by omega)]
    · rw [if_neg h2, if_neg (by omega)]
theorem m_cpy_0 {f g : Nat → Int32} {sp dp : Nat} : va_cpy f g sp dp 0 = g := by
  funext j
  unfold va_cpy
  rw [if_neg (by omega)]
theorem m_shl_s {p : Nat → Int32} {k : Nat} (h : k < 445) : upd (m_shl p k) k (m_shl p k (k + 89)) = m_shl p (k + 1) := by
  funext j
  unfold upd m_shl
  by_cases h1 : j = k
  · subst h1
    rw [if_pos rfl, if_neg (by omega), if_pos (by omega)]
  · rw [if_neg h1]
    by_cases h2 : j < k
    · rw [if_pos h2, if_pos (by omega)]
    · rw [if_neg h2, if_neg (by omega)]
theorem m_shl_0 {p : Nat → Int32} : m_shl p 0 = p := by
  funext j
  unfold m_shl
  rw [if_neg (by omega)]
theorem m_sk_le {k : Nat} (h : k ≤ 6) : m_sk k ≤ 5 := by unfold m_sk; split <;> omega
theorem nI_sub {a b : Nat} (h : b ≤ a) : nI a - nI b = nI (a - b) := by
  have e : nI a = nI (a - b) + nI b := by rw [nI_add]; congr 1; omega
  rw [e, Int32.add_sub_cancel]
/-- a new barge -/
def m_newL (f : Nat → Int32) (n : Nat) : Nat → Nat → Int32
  | 0 => f
  | k + 1 => upd (m_newL f n k) (26 + 7 * n + k) (if k = 3 ∨ k = 5 then -1 else 0)
def m_new (f : Nat → Int32) (n : Nat) (size : Int32) : Nat → Int32 := upd (upd (m_newL f n 7) (26 + 7 * n) size) 6 (nI (n + 1))
theorem m_newL_lo {f : Nat → Int32} {n k j : Nat} (h : j < 26) : m_newL f n k j = f j := by
  induction k with
  | zero => rfl
  | succ k ih => exact (upd_n (by omega)).trans ih
/-- consents that run, counted -/
def m_runsL (f : Nat → Int32) : Nat → Int32
  | 0 => 0
  | m + 1 => m_runsL f m + (if m_runs f m then 1 else 0)
def m_cons (f : Nat → Int32) (m : Nat) (a b : Int32) : Nat → Int32 := upd (upd f (54 + 7 * m + 3) (if a ≤ b then a else -1)) (54 + 7 * m + 4) (if a ≤ b then b else -1)
def m_stFor (f : Nat → Int32) (m : Nat) : Int32 := if m_stop f m then m_m f m 5 - f 4 + 1 else 0
def m_stops (f : Nat → Int32) (m : Nat) (d : Int32) : Nat → Int32 := upd f (54 + 7 * m + 5) (if f 4 + d - 1 ≤ f (54 + 7 * m + 5) then f (54 + 7 * m + 5) else f 4 + d - 1)
def m_mayPass (f : Nat → Int32) (d : Int32) : Bool := !decide (9999 < f 4 + d)
def m_isFor (k : Nat) (v : Int32) : Bool := match k with
  | 0 => m_in v 1 40
  | 1 => m_in v 0 20
  | 2 => m_in v 1 200
  | _ => m_in v 1 50
/-! texts: an order that begins at place i; ok, the place behind (or where it stops), two numbers -/
def p_at (tx : Nat → Int32) (ty i : Nat) (lo hi : Int32) : Bool := decide (i < ty) && m_in (tx i) lo hi
abbrev p_R : Type := Bool × Nat × Int32 × Int32
def p_dg (tx : Nat → Int32) (ty i : Nat) (hi : Int32) : p_R := if p_at tx ty i 48 hi then (true, i + 1, tx i - 48, 0) else (false, i, 0, 0)
def p_v2 (tx : Nat → Int32) (i : Nat) : Int32 := 10 * (tx i - 48) + tx (i + 1) - 48
def p_dy (tx : Nat → Int32) (ty i : Nat) : p_R :=
  if p_at tx ty i 49 57 then (if p_at tx ty (i + 1) 48 57 && !decide (60 < p_v2 tx i) then (true, i + 2, p_v2 tx i, 0) else (true, i + 1, tx i - 48, 0)) else (false, i, 0, 0)
def p_ord (tx : Nat → Int32) (ty i : Nat) : p_R :=
  if p_at tx ty i 48 51 then (if p_at tx ty (i + 1) 62 62 then (if p_at tx ty (i + 2) 48 52 then (true, i + 3, tx i - 48, tx (i + 2) - 48) else (false, i + 2, 0, 0)) else (true, i + 1, tx i - 48, -1)) else (false, i, 0, 0)
def p_cmp (tx : Nat → Int32) (ty i : Nat) : p_R :=
  if p_at tx ty i 48 52 then (if p_at tx ty (i + 1) 58 58 then ((p_dy tx ty (i + 2)).1, (p_dy tx ty (i + 2)).2.1, tx i - 48, (p_dy tx ty (i + 2)).2.2.1) else (false, i + 1, 0, 0)) else (false, i, 0, 0)
def p_sort (tx : Nat → Int32) (ty i : Nat) : Int32 := if ty ≤ i then 0 else tx i
def p_part (tx : Nat → Int32) (ty i : Nat) : p_R :=
  if p_sort tx ty i = 98 then p_ord tx ty (i + 1) else if p_sort tx ty i = 109 then p_dg tx ty (i + 1) 53 else if p_sort tx ty i = 110 then p_dy tx ty (i + 1) else if p_sort tx ty i = 120 then p_cmp tx ty (i + 1) else (false, i, 0, 0)
def p_ok (tx : Nat → Int32) (ty i : Nat) : Bool := (p_part tx ty i).1
def p_j (tx : Nat → Int32) (ty i : Nat) : Nat := (p_part tx ty i).2.1
def p_a (tx : Nat → Int32) (ty i : Nat) : Int32 := (p_part tx ty i).2.2.1
def p_b (tx : Nat → Int32) (ty i : Nat) : Int32 := (p_part tx ty i).2.2.2
/-- where the t-th order begins -/
def p_pos (tx : Nat → Int32) (ty : Nat) : Nat → Nat
  | 0 => 0
  | t + 1 => p_j tx ty (p_pos tx ty t) + 1
def p_go (tx : Nat → Int32) (ty t : Nat) : Bool := p_ok tx ty (p_pos tx ty t) && p_at tx ty (p_j tx ty (p_pos tx ty t)) 59 59
theorem p_at_lt {tx : Nat → Int32} {ty i : Nat} {lo hi : Int32} (h : p_at tx ty i lo hi = true) : i < ty := by
  unfold p_at at h
  simp only [Bool.and_eq_true, decide_eq_true_eq] at h
  exact h.1
theorem p_dg_le {tx : Nat → Int32} {ty i : Nat} {hi : Int32} : i ≤ (p_dg tx ty i hi).2.1 ∧ (i ≤ ty → (p_dg tx ty i hi).2.1 ≤ ty) ∧ ((p_dg tx ty i hi).1 = true → i + 1 ≤ (p_dg tx ty i hi).2.1) := by
  unfold p_dg
  split
  · rename_i h
    have := p_at_lt h
    exact ⟨by dsimp only; omega, fun _ => by dsimp only; omega, fun _ => by dsimp only; omega⟩
  · exact ⟨by dsimp only; omega, fun h => h, fun h => by simp at h⟩
theorem p_dy_le {tx : Nat → Int32} {ty i : Nat} : i ≤ (p_dy tx ty i).2.1 ∧ (i ≤ ty → (p_dy tx ty i).2.1 ≤ ty) ∧ ((p_dy tx ty i).1 = true → i + 1 ≤ (p_dy tx ty i).2.1) := by
  unfold p_dy
  split
  · rename_i h
    have := p_at_lt h
    split
    · rename_i h2
      simp only [Bool.and_eq_true] at h2
      have := p_at_lt h2.1
      exact ⟨by dsimp only; omega, fun _ => by dsimp only; omega, fun _ => by dsimp only; omega⟩
    · exact ⟨by dsimp only; omega, fun _ => by dsimp only; omega, fun _ => by dsimp only; omega⟩
  · exact ⟨by dsimp only; omega, fun h => h, fun h => by simp at h⟩
theorem p_ord_le {tx : Nat → Int32} {ty i : Nat} : i ≤ (p_ord tx ty i).2.1 ∧ (i ≤ ty → (p_ord tx ty i).2.1 ≤ ty) ∧ ((p_ord tx ty i).1 = true → i + 1 ≤ (p_ord tx ty i).2.1) := by
  unfold p_ord
  split
  · rename_i h
    have := p_at_lt h
    split
    · rename_i h2
      have := p_at_lt h2
      split
      · rename_i h3
        have := p_at_lt h3
        exact ⟨by dsimp only; omega, fun _ => by dsimp only; omega, fun _ => by dsimp only; omega⟩
      · exact ⟨by dsimp only; omega, fun _ => by dsimp only; omega, fun _ => by dsimp only; omega⟩
    · exact ⟨by dsimp only; omega, fun _ => by dsimp only; omega, fun _ => by dsimp only; omega⟩
  · exact ⟨by dsimp only; omega, fun h => h, fun h => by simp at h⟩
theorem p_cmp_le {tx : Nat → Int32} {ty i : Nat} : i ≤ (p_cmp tx ty i).2.1 ∧ (i ≤ ty → (p_cmp tx ty i).2.1 ≤ ty) ∧ ((p_cmp tx ty i).1 = true → i + 1 ≤ (p_cmp tx ty i).2.1) := by
  unfold p_cmp
  split
  · rename_i h
    have := p_at_lt h
    split
    · rename_i h2
      have := p_at_lt h2
      have h3 := p_dy_le (tx := tx) (ty := ty) (i := i + 2)
      exact ⟨by dsimp only; omega, fun _ => by dsimp only; omega, fun _ => by dsimp only; omega⟩
    · exact ⟨by dsimp only; omega, fun _ => by dsimp only; omega, fun _ => by dsimp only; omega⟩
  · exact ⟨by dsimp only; omega, fun h => h, fun h => by simp at h⟩
theorem p_part_le {tx : Nat → Int32} {ty i : Nat} : i ≤ p_j tx ty i ∧ (i ≤ ty → p_j tx ty i ≤ ty) ∧ (p_ok tx ty i = true → i + 2 ≤ p_j tx ty i) := by
  have e : ∀ c : Int32, p_sort tx ty i = c → ¬ c = 0 → i < ty := by
    intro c h h0
    unfold p_sort at h
    split at h
    · exact absurd h.symm h0
    · omega
  unfold p_j p_ok p_part
  split
  · rename_i h
    have h1 := e _ h (by decide)
    have h2 := p_ord_le (tx := tx) (ty := ty) (i := i + 1)
    exact ⟨by omega, fun _ => h2.2.1 (by omega), fun h => by have := h2.2.2 h; omega⟩
  · split
    · rename_i h
      have h1 := e _ h (by decide)
      have h2 := p_dg_le (tx := tx) (ty := ty) (i := i + 1) (hi := 53)
      exact ⟨by omega, fun _ => h2.2.1 (by omega), fun h => by have := h2.2.2 h; omega⟩
    · split
      · rename_i h
        have h1 := e _ h (by decide)
        have h2 := p_dy_le (tx := tx) (ty := ty) (i := i + 1)
        exact ⟨by omega, fun _ => h2.2.1 (by omega), fun h => by have := h2.2.2 h; omega⟩
      · split
        · rename_i h
          have h1 := e _ h (by decide)
          have h2 := p_cmp_le (tx := tx) (ty := ty) (i := i + 1)
          exact ⟨by omega, fun _ => h2.2.1 (by omega), fun h => by have := h2.2.2 h; omega⟩
        · exact ⟨by dsimp only; omega, fun h => h, fun h => by simp at h⟩
theorem p_pos_3 {tx : Nat → Int32} {ty t : Nat} (h : ∀ s, s < t → p_go tx ty s = true) : 3 * t ≤ p_pos tx ty t ∧ p_pos tx ty t ≤ ty := by
  induction t with
  | zero => exact ⟨by simp [p_pos], by simp [p_pos]⟩
  | succ t ih =>
    have h1 := ih (fun s hs => h s (by omega))
    have h2 := h t (by omega)
    unfold p_go at h2
    simp only [Bool.and_eq_true] at h2
    have h3 := p_at_lt h2.2
    have h4 := (p_part_le (tx := tx) (ty := ty) (i := p_pos tx ty t)).2.2 h2.1
    show 3 * (t + 1) ≤ p_j tx ty (p_pos tx ty t) + 1 ∧ p_j tx ty (p_pos tx ty t) + 1 ≤ ty
    omega
def p_told (tx : Nat → Int32) (ty : Nat) (c : Nat → Int32) (t : Nat) : Prop := ∀ s, s < t → c (3 * s) = p_sort tx ty (p_pos tx ty s) ∧ c (3 * s + 1) = p_a tx ty (p_pos tx ty s) ∧ (p_sort tx ty (p_pos tx ty s) = 98 ∨ p_sort tx ty (p_pos tx ty s) = 120 → c (3 * s + 2) = p_b tx ty (p_pos tx ty s))
def p_end (tx : Nat → Int32) (ty t : Nat) : Prop := (∀ s, s < t → p_go tx ty s = true) ∧ p_go tx ty t = false
theorem p_end_uniq {tx : Nat → Int32} {ty t u : Nat} (h : p_end tx ty t) (h2 : p_end tx ty u) : t = u := by
  rcases Nat.lt_trichotomy t u with q | q | q
  · exact absurd (h2.1 t q) (by rw [h.2]; decide)
  · exact q
  · exact absurd (h.1 u q) (by rw [h2.2]; decide)
theorem p_end_le {tx : Nat → Int32} {ty t : Nat} (h : p_end tx ty t) : 3 * t ≤ ty ∧ p_j tx ty (p_pos tx ty t) ≤ ty := by
  have h1 := p_pos_3 h.1
  exact ⟨by omega, (p_part_le (tx := tx) (ty := ty) (i := p_pos tx ty t)).2.1 h1.2⟩
/-! doing a text's orders -/
theorem m_in_lt {a n : Nat} (ha : a < 100000) (hn : n < 100000) : m_in (nI a) 0 (nI n - 1) = decide (a < n) := by
  rcases Nat.eq_zero_or_pos n with h | h
  · subst h
    have e : nI 0 - 1 = (-1 : Int32) := by decide
    rw [e, decide_eq_false (by omega)]
    unfold m_in
    have h2 : (-1 : Int32) < nI a := Int32.lt_of_lt_of_le (by decide) (nI_pos' (n := a) (by omega))
    rw [decide_eq_true h2]; simp
  · rw [show (1 : Int32) = nI 1 from rfl, nI_sub h]
    unfold m_in
    rw [decide_eq_false (show ¬ nI a < 0 from nI_pos (by omega))]
    by_cases q : a < n
    · rw [decide_eq_true q, decide_eq_false (nI_nlt (a := n - 1) (b := a) (by omega) (by omega))]; rfl
    · rw [decide_eq_false q, decide_eq_true (nI_lt (a := n - 1) (b := a) (by omega) (by omega))]; rfl
def w_step (f : Nat → Int32) (so a b : Int32) : Bool × (Nat → Int32) :=
  if so = 98 then (if a.toNatClampNeg < (f 6).toNatClampNeg then (true, upd f (26 + 7 * a.toNatClampNeg + 5) b) else (false, f))
  else if so = 109 then (true, upd f 5 a) else if so = 120 then (true, m_stops f a.toNatClampNeg b)
  else if m_mayPass f a then (true, m_days f (f 6).toNatClampNeg (f 5).toNatClampNeg a.toNatClampNeg) else (false, f)
theorem w_step_no {f : Nat → Int32} {so a b : Int32} (h : (w_step f so a b).1 = false) : (w_step f so a b).2 = f := by
  unfold w_step at h ⊢
  split at h
  · split at h
    · exact absurd h (by simp)
    · rename_i h1 h2; rw [if_pos h1, if_neg h2]
  · split at h
    · exact absurd h (by simp)
    · split at h
      · exact absurd h (by simp)
      · split at h
        · exact absurd h (by simp)
        · rename_i h1 h2 h3 h4; rw [if_neg h1, if_neg h2, if_neg h3, if_neg h4]
def w_num (so a : Int32) : Prop := (so = 98 → ∃ q, q < 10 ∧ a = nI q) ∧ (so = 109 → ∃ q, q < 6 ∧ a = nI q) ∧ (so = 120 → ∃ q, q < 5 ∧ a = nI q) ∧ (¬ so = 98 → ¬ so = 109 → ¬ so = 120 → ∃ q, 1 ≤ q ∧ q ≤ 60 ∧ a = nI q)
def w_fit (c : Nat → Int32) (n r : Nat) : Prop := n ≤ 4 ∧ c 6 = nI n ∧ r < 6 ∧ c 5 = nI r ∧ ∀ j, j < 60 → m_layOk (m_days c n r j) n
/-- the state behind s orders -/
def w_st (tx : Nat → Int32) (ty : Nat) (f : Nat → Int32) : Nat → Nat → Int32
  | 0 => f
  | s + 1 => (w_step (w_st tx ty f s) (p_sort tx ty (p_pos tx ty s)) (p_a tx ty (p_pos tx ty s)) (p_b tx ty (p_pos tx ty s))).2
def w_suc (tx : Nat → Int32) (ty : Nat) (f : Nat → Int32) (s : Nat) : Bool := (w_step (w_st tx ty f s) (p_sort tx ty (p_pos tx ty s)) (p_a tx ty (p_pos tx ty s)) (p_b tx ty (p_pos tx ty s))).1
/-- how many orders are done, of T -/
def w_done (tx : Nat → Int32) (ty : Nat) (f : Nat → Int32) (T s : Nat) : Prop := s ≤ T ∧ (∀ i, i < s → w_suc tx ty f i = true) ∧ (s = T ∨ w_suc tx ty f s = false)
theorem w_done_uniq {tx : Nat → Int32} {ty : Nat} {f : Nat → Int32} {T s u : Nat} (h : w_done tx ty f T s) (h2 : w_done tx ty f T u) : s = u := by
  rcases Nat.lt_trichotomy s u with q | q | q
  · rcases h.2.2 with e | e
    · have := h2.1; omega
    · exact absurd (h2.2.1 s q) (by rw [e]; decide)
  · exact q
  · rcases h2.2.2 with e | e
    · have := h.1; omega
    · exact absurd (h.2.1 u q) (by rw [e]; decide)
theorem p_at_num {tx : Nat → Int32} {ty i a b : Nat} {lo hi : Int32} (h : p_at tx ty i lo hi = true) (hlo : lo = nI (48 + a)) (hhi : hi = nI (48 + b)) (hb : b < 1000) (ha : a < 1000) : ∃ q, a ≤ q ∧ q ≤ b ∧ tx i - 48 = nI q := by
  unfold p_at at h
  simp only [Bool.and_eq_true] at h
  obtain ⟨q, h1, h2, h3⟩ := m_in_N h.2 hlo hhi (by omega) (by omega)
  refine ⟨q - 48, by omega, by omega, ?_⟩
  rw [h3, show (48 : Int32) = nI 48 from rfl, nI_sub (by omega)]
theorem p_dg_num {tx : Nat → Int32} {ty i b : Nat} {hi : Int32} (hhi : hi = nI (48 + b)) (hb : b < 1000) (h : (p_dg tx ty i hi).1 = true) : ∃ q, q ≤ b ∧ (p_dg tx ty i hi).2.2.1 = nI q := by
  unfold p_dg at h ⊢
  split at h
  · rename_i h1
    obtain ⟨q, -, h2, h3⟩ := p_at_num (a := 0) h1 rfl hhi hb (by omega)
    rw [if_pos h1]
    exact ⟨q, h2, h3⟩
  · exact absurd h (by simp)
theorem p_dy_num {tx : Nat → Int32} {ty i : Nat} (h : (p_dy tx ty i).1 = true) : ∃ q, 1 ≤ q ∧ q ≤ 60 ∧ (p_dy tx ty i).2.2.1 = nI q := by
  unfold p_dy at h ⊢
  split at h
  · rename_i h1
    obtain ⟨q, g1, g2, g3⟩ := p_at_num (a := 1) (b := 9) h1 rfl rfl (by omega) (by omega)
    rw [if_pos h1]
    split
    · rename_i h2
      simp only [Bool.and_eq_true, Bool.not_eq_true', decide_eq_false_iff_not] at h2
      obtain ⟨h2, h4⟩ := h2
      unfold p_at at h2
      simp only [Bool.and_eq_true] at h2
      obtain ⟨u, k1, k2, k3⟩ := m_in_N (a := 48) (b := 57) h2.2 rfl rfl (by omega) (by omega)
      have e : p_v2 tx i = nI (10 * q + u - 48) := by
        unfold p_v2
        rw [g3, k3, show (10 : Int32) = nI 10 from rfl, zx_mul (a := 10) (b := q) rfl rfl, nI_add, show (48 : Int32) = nI 48 from rfl, nI_sub (by omega)]
      refine ⟨10 * q + u - 48, by omega, ?_, e⟩
      rcases Nat.lt_or_ge 60 (10 * q + u - 48) with z | z
      · exact absurd (by rw [e]; exact nI_lt (a := 60) z (by omega)) h4
      · exact z
    · exact ⟨q, g1, by omega, g3⟩
  · exact absurd h (by simp)
theorem p_num {tx : Nat → Int32} {ty i : Nat} (h : p_ok tx ty i = true) : w_num (p_sort tx ty i) (p_a tx ty i) := by
  unfold p_ok at h
  unfold p_a
  refine ⟨fun e => ?_, fun e => ?_, fun e => ?_, fun e1 e2 e3 => ?_⟩
  · have e2 : p_part tx ty i = p_ord tx ty (i + 1) := by unfold p_part; rw [if_pos e]
    rw [e2] at h ⊢
    unfold p_ord at h ⊢
    split at h
    · rename_i h1
      obtain ⟨q, -, g2, g3⟩ := p_at_num (a := 0) (b := 3) h1 rfl rfl (by omega) (by omega)
      rw [if_pos h1]
      split
      · rename_i h2
        rw [if_pos h2] at h
        split
        · exact ⟨q, by omega, g3⟩
        · rename_i h3; rw [if_neg h3] at h; exact absurd h (by simp)
      · exact ⟨q, by omega, g3⟩
    · exact absurd h (by simp)
  · have e2 : p_part tx ty i = p_dg tx ty (i + 1) 53 := by unfold p_part; rw [if_neg (by rw [e]; decide), if_pos e]
    rw [e2] at h ⊢
    obtain ⟨q, g1, g2⟩ := p_dg_num (b := 5) rfl (by omega) h
    exact ⟨q, by omega, g2⟩
  · have e2 : p_part tx ty i = p_cmp tx ty (i + 1) := by unfold p_part; rw [if_neg (by rw [e]; decide), if_neg (by rw [e]; decide), if_neg (by rw [e]; decide), if_pos e]
    rw [e2] at h ⊢
    unfold p_cmp at h ⊢
    split at h
    · rename_i h1
      obtain ⟨q, -, g2, g3⟩ := p_at_num (a := 0) (b := 4) h1 rfl rfl (by omega) (by omega)
      rw [if_pos h1]
      split
      · exact ⟨q, by omega, g3⟩
      · rename_i h2; rw [if_neg h2] at h; exact absurd h (by simp)
    · exact absurd h (by simp)
  · by_cases e4 : p_sort tx ty i = 110
    · have e5 : p_part tx ty i = p_dy tx ty (i + 1) := by unfold p_part; rw [if_neg e1, if_neg e2, if_pos e4]
      rw [e5] at h ⊢
      exact p_dy_num h
    · have e5 : p_part tx ty i = (false, i, 0, 0) := by unfold p_part; rw [if_neg e1, if_neg e2, if_neg e4, if_neg e3]
      rw [e5] at h
      exact absurd h (by simp)
/-! doubles: a quotient of two ints is no NaN -/
theorem fd_e (s : Bool) (e t : Nat) (he : e < 2048) (ht : t < 4503599627370496) : FP.Core.fieldE FP.Core.b64 (UInt64.ofNat (FP.Core.assemble FP.Core.b64 s e t)).toNat = e ∧ FP.Core.fieldT FP.Core.b64 (UInt64.ofNat (FP.Core.assemble FP.Core.b64 s e t)).toNat = t := by
  have h1 : FP.Core.assemble FP.Core.b64 s e t = (s.toNat * 2048 + e) * 4503599627370496 + t := rfl
  have hs : s.toNat ≤ 1 := by cases s <;> decide
  have h2 : (UInt64.ofNat (FP.Core.assemble FP.Core.b64 s e t)).toNat = (s.toNat * 2048 + e) * 4503599627370496 + t := by
    rw [UInt64.toNat_ofNat', h1]
    exact Nat.mod_eq_of_lt (by omega)
  rw [h2]
  refine ⟨?_, ?_⟩
  · show ((s.toNat * 2048 + e) * 4503599627370496 + t) / 4503599627370496 % 2048 = e
    omega
  · show ((s.toNat * 2048 + e) * 4503599627370496 + t) % 4503599627370496 = t
    omega
theorem fd_fin (s : Bool) (e t : Nat) (he : e < 2047) (ht : t < 4503599627370496) (h0 : 0 < e ∨ 0 < t) : ∃ s' d q, FP.Core.decode FP.Core.b64 (UInt64.ofNat (FP.Core.assemble FP.Core.b64 s e t)).toNat = .fin s' d q ∧ d ≠ 0 := by
  obtain ⟨h1, h2⟩ := fd_e s e t (by omega) ht
  unfold FP.Core.decode
  rw [h1, h2, if_neg (show ¬ e = FP.Core.b64.exps - 1 from fun h => by have : FP.Core.b64.exps - 1 = 2047 := rfl; omega)]
  split
  · exact ⟨_, _, _, rfl, by omega⟩
  · exact ⟨_, _, _, rfl, by have : FP.Core.b64.tails = 4503599627370496 := rfl; omega⟩
/-- no NaN -/
def fd_ok (r : UInt64) : Prop := ¬ FP.Core.decode FP.Core.b64 r.toNat = .nan
theorem fd_asm (s : Bool) (e t : Nat) (he : e < 2047) (ht : t < 4503599627370496) : fd_ok (UInt64.ofNat (FP.Core.assemble FP.Core.b64 s e t)) := by
  obtain ⟨h1, h2⟩ := fd_e s e t (by omega) ht
  unfold fd_ok FP.Core.decode
  rw [h1, h2, if_neg (show ¬ e = FP.Core.b64.exps - 1 from fun h => by have : FP.Core.b64.exps - 1 = 2047 := rfl; omega)]
  split <;> exact FP.Core.Datum.noConfusion
theorem fd_inf (s : Bool) : fd_ok (UInt64.ofNat (FP.Core.assemble FP.Core.b64 s (FP.Core.b64.exps - 1) 0)) := by
  obtain ⟨h1, h2⟩ := fd_e s 2047 0 (by omega) (by omega)
  unfold fd_ok FP.Core.decode
  rw [show FP.Core.b64.exps - 1 = 2047 from rfl, h1, h2, if_pos rfl, if_pos rfl]
  exact FP.Core.Datum.noConfusion
theorem fd_bound (s : Bool) (c : Nat) (q : Int) (hc : c < 9007199254740992) : fd_ok (UInt64.ofNat (FP.Core.encode FP.Core.b64 (FP.Core.bound FP.Core.b64 s c q))) := by
  unfold FP.Core.bound
  split
  · rename_i h
    have hq : q ≤ 971 := h
    show fd_ok (UInt64.ofNat (if c < FP.Core.b64.tails then FP.Core.assemble FP.Core.b64 s 0 c else FP.Core.assemble FP.Core.b64 s ((q - FP.Core.b64.qmin).toNat + 1) (c - FP.Core.b64.tails)))
    split
    · rename_i h2
      exact fd_asm s 0 c (by omega) h2
    · rename_i h2
      have h3 : ¬ c < 4503599627370496 := h2
      exact fd_asm s _ _ (by have : FP.Core.b64.qmin = -1074 := rfl; omega) (by have : FP.Core.b64.tails = 4503599627370496 := rfl; omega)
  · exact fd_inf s
theorem fd_settle (s : Bool) (c : Nat) (q : Int) : fd_ok (UInt64.ofNat (FP.Core.encode FP.Core.b64 (FP.Core.settle FP.Core.b64 s c q))) := by
  unfold FP.Core.settle
  split
  · rename_i h; exact fd_bound s c q h
  · exact fd_bound s _ _ (by have : FP.Core.b64.tails = 4503599627370496 := rfl; omega)
theorem fd_ratio (s : Bool) (a b : Nat) (e : Int) : fd_ok (UInt64.ofNat (FP.Core.encode FP.Core.b64 (FP.Core.roundRatio FP.Core.b64 s a b e))) := by
  unfold FP.Core.roundRatio
  split
  · exact fd_asm s 0 0 (by omega) (by omega)
  · exact fd_settle s _ _
theorem fd_i2d (v : Int32) : fd_ok (FP.Core.i2d v) := fd_ratio _ _ _ _
theorem fd_i2dn {v : Int32} (h : ¬ v = 0) : ∃ s' d q, FP.Core.decode FP.Core.b64 (FP.Core.i2d v).toNat = .fin s' d q ∧ d ≠ 0 := by
  have h0 : v.toInt ≠ 0 := fun h2 => h (Int32.toInt_inj.mp h2)
  have hb1 := Int32.le_toInt v
  have hb2 := Int32.toInt_lt v
  have hn : v.toInt.natAbs ≠ 0 := by omega
  have hn2 : v.toInt.natAbs ≤ 2147483648 := by omega
  show ∃ s' d q, FP.Core.decode FP.Core.b64 (UInt64.ofNat (FP.Core.encode FP.Core.b64 (FP.Core.roundRatio FP.Core.b64 (decide (v.toInt < 0)) v.toInt.natAbs 1 0))).toNat = .fin s' d q ∧ d ≠ 0
  generalize decide (v.toInt < 0) = s
  generalize v.toInt.natAbs = n at hn hn2
  unfold FP.Core.roundRatio
  rw [if_neg hn]
  have hlog : n.log2 ≤ 31 := by
    have h1 := Nat.log2_self_le hn
    rcases Nat.lt_or_ge 31 n.log2 with z | z
    · have h2 : 2 ^ 32 ≤ 2 ^ n.log2 := Nat.pow_le_pow_right (by decide) z
      have : (2 : Nat) ^ 32 = 4294967296 := rfl
      omega
    · exact z
  have hlead : FP.Core.leading n 1 ≤ 31 := by
    unfold FP.Core.leading
    have : Nat.log2 1 = 0 := by decide
    dsimp only
    split <;> omega
  generalize hq : FP.Core.quantum FP.Core.b64 n 1 0 = q
  have hq2 : q ≤ -21 := by
    rw [← hq]
    show max (-1074 : Int) (FP.Core.leading n 1 + 0 - ((53 : Nat) - 1)) ≤ -21
    omega
  have hu : FP.Core.unitsDen 1 0 q = 1 := by
    unfold FP.Core.unitsDen
    rw [show (q - 0).toNat = 0 by omega]
  have hx : FP.Core.nearest (FP.Core.unitsNum n 0 q) (FP.Core.unitsDen 1 0 q) = FP.Core.unitsNum n 0 q := by
    rw [hu]
    unfold FP.Core.nearest
    rw [Nat.mod_one, if_pos (by omega), Nat.div_one]
  have hpos : 0 < FP.Core.unitsNum n 0 q := Nat.mul_pos (by omega) (Nat.pow_pos (by decide))
  unfold FP.Core.roundAt
  rw [hx]
  generalize FP.Core.unitsNum n 0 q = c at hpos
  have key : ∀ (c : Nat) (q : Int), 0 < c → c < 9007199254740992 → q ≤ -20 → ∃ s' d q', FP.Core.decode FP.Core.b64 (UInt64.ofNat (FP.Core.encode FP.Core.b64 (FP.Core.bound FP.Core.b64 s c q))).toNat = .fin s' d q' ∧ d ≠ 0 := by
    intro c q h1 h2 h3
    unfold FP.Core.bound
    rw [if_pos (show q ≤ FP.Core.b64.qmax from Int.le_trans h3 (by decide))]
    show ∃ s' d q', FP.Core.decode FP.Core.b64 (UInt64.ofNat (if c < FP.Core.b64.tails then FP.Core.assemble FP.Core.b64 s 0 c else FP.Core.assemble FP.Core.b64 s ((q - FP.Core.b64.qmin).toNat + 1) (c - FP.Core.b64.tails))).toNat = .fin s' d q' ∧ d ≠ 0
    have ht : FP.Core.b64.tails = 4503599627370496 := rfl
    have hm : FP.Core.b64.qmin = -1074 := rfl
    split
    · exact fd_fin s 0 c (by omega) (by omega) (Or.inr h1)
    · exact fd_fin s _ _ (by omega) (by omega) (Or.inl (by omega))
  unfold FP.Core.settle
  split
  · rename_i h; exact key c q hpos h (by omega)
  · exact key _ _ (by decide) (by decide) (by omega)
theorem fd_div {a b : Int32} (h : ¬ b = 0) : fd_ok (FP.Core.ddiv (FP.Core.i2d a) (FP.Core.i2d b)) := by
  obtain ⟨t, d, r, h1, h2⟩ := fd_i2dn h
  unfold FP.Core.ddiv FP.Core.div
  rw [h1]
  have ha := fd_i2d a
  unfold fd_ok at ha
  generalize FP.Core.decode FP.Core.b64 (FP.Core.i2d a).toNat = x at ha
  cases x with
  | nan => exact absurd rfl ha
  | inf s => exact fd_inf _
  | fin s c q =>
    show fd_ok (UInt64.ofNat (FP.Core.encode FP.Core.b64 (if d = 0 then (if c = 0 then .nan else .inf (s != t)) else FP.Core.roundRatio FP.Core.b64 (s != t) c d (q - r))))
    rw [if_neg h2]
    exact fd_ratio _ _ _ _
theorem fd_n64 {r : UInt64} (h : fd_ok r) : vf_n64 r := by
  unfold vf_n64
  rw [UInt64.le_iff_toNat_le, UInt64.toNat_and, show (0x7fffffffffffffff : UInt64).toNat = 2 ^ 63 - 1 from rfl, Nat.and_two_pow_sub_one_eq_mod, show (0x7ff0000000000000 : UInt64).toNat = 9218868437227405312 from rfl]
  apply Nat.le_of_not_lt
  intro hlt
  apply h
  unfold FP.Core.decode
  have he : FP.Core.fieldE FP.Core.b64 r.toNat = FP.Core.b64.exps - 1 := by
    show r.toNat / 4503599627370496 % 2048 = 2047
    omega
  have ht : ¬ FP.Core.fieldT FP.Core.b64 r.toNat = 0 := by
    show ¬ r.toNat % 4503599627370496 = 0
    omega
  rw [if_pos he, if_neg ht]
theorem fd_self {r : UInt64} (h : fd_ok r) : FP.dcmp r r = some .eq := by
  show FP.Core.order (FP.Core.decode FP.Core.b64 r.toNat) (FP.Core.decode FP.Core.b64 r.toNat) = some .eq
  unfold fd_ok at h
  generalize FP.Core.decode FP.Core.b64 r.toNat = x at h
  cases x with
  | nan => exact absurd rfl h
  | inf s => cases s <;> rfl
  | fin s c q => simp [FP.Core.order]
/-! looks -/
def m_reason (f : Nat → Int32) (n r b : Nat) : Int32 :=
  if m_b f b 1 = 0 then (if m_wants f b r then (if m_goal f n b = -1 then 2 else 7) else 1)
  else if m_b f b 1 = 2 then (let mm := (m_b f b 3).toNatClampNeg; if m_runs f mm then (if m_stop f mm then 4 else if m_m f mm 1 < m_m f mm 0 then (if m_wet f mm then 6 else 8) else 5) else 3) else 0
def m_ofB (f : Nat → Int32) (n r b w : Nat) : Int32 := if 6 ≤ w then (if w = 6 then m_reason f n r b else m_b f b 6) else m_b f b w
def m_ofM (f : Nat → Int32) (n m w : Nat) : Int32 := if w = 5 then m_stFor f m else if w = 7 then m_room f m n else if w = 8 then (if m_open f m then 1 else 0) else m_m f m w
def m_many (bm : Bool) (f : Nat → Int32) (n : Nat) : Nat → Int32
  | 0 => 0
  | k + 1 => m_many bm f n k + (if bm then (if m_open f k then 1 else 0) else (if n ≤ k then 0 else if m_b f k 1 = 2 then 1 else 0))
def m_cnt (f : Nat → Int32) (n k : Nat) (w : Nat) : Int32 := match w with
  | 0 => f 4
  | 1 => f 6
  | 2 => f 5
  | 3 => m_sumR f 1 6
  | 4 => m_sumB f 2 n
  | 5 => m_sumM f 1 5
  | 6 => m_sumB f 6 n
  | 7 => m_sumR f 0 6
  | 8 => m_many false f n 5
  | 9 => f 7
  | 10 => m_many true f n 5
  | _ => nI k
def m_byc (f c : Nat → Int32) (n w : Nat) : Int32 := match w with
  | 0 => m_sumR c 1 6 - m_sumR f 1 6
  | 1 => m_sumM c 1 5 - m_sumM f 1 5
  | 2 => m_sumB c 2 n
  | 3 => c 7 - f 7
  | _ => m_sumR c 0 6
def m_by (f : Nat → Int32) (n rr d w : Nat) : Int32 := m_byc f (m_days (upd f 5 (nI rr)) n rr d) n w
def m_clrF (f : Nat → Int32) (n r : Nat) : Nat → Nat → Int32
  | 0, _ => -1
  | u + 1, k => if m_clear (m_days f n r k) n r then nI (k + 1) else m_clrF f n r u (k + 1)
def m_clears (f : Nat → Int32) (n r : Nat) : Int32 := if f (8 + 3 * r) = 0 then 0 else m_clrF f n r 200 0
def m_mostL (f : Nat → Int32) (n d : Nat) : Nat → Int32 × Int32
  | 0 => (0, -1)
  | r + 1 => let c := m_mostL f n d r; let its := m_by f n r d 0; if its ≤ c.2 then c else (nI r, its)
def m_most (f : Nat → Int32) (n d : Nat) : Int32 := (m_mostL f n d 6).1
def m_share (f : Nat → Int32) : UInt64 := if m_sumR f 1 6 = 0 then FP.dconst1 else FP.ddiv (FP.i2d (m_sumM f 1 5)) (FP.i2d (m_sumR f 1 6))
theorem m_share_ok (f : Nat → Int32) : fd_ok (m_share f) := by
  unfold m_share
  split
  · unfold fd_ok; decide +kernel
  · rename_i h; exact fd_div h
/-- hashing a row of values -/
def m_fold (v : Nat → Int32) (h0 : Int64) : Nat → Int64
  | 0 => h0
  | j + 1 => 31 * m_fold v h0 j + (v j).toInt64
def m_h1 (f : Nat → Int32) (n k : Nat) : Int64 := m_fold (m_cnt f n k) 3137 12
def m_h2 (f : Nat → Int32) (n k : Nat) : Int64 := m_fold f (m_h1 f n k) 4
def m_h3 (f : Nat → Int32) (n k : Nat) : Int64 := m_fold (fun j => f (8 + j)) (m_h2 f n k) 18
def m_h4 (f : Nat → Int32) (n k r : Nat) : Int64 := m_fold (fun j => m_ofB f n r (j / 8) (j % 8)) (m_h3 f n k) (8 * n)
def m_h5 (f : Nat → Int32) (n k r : Nat) : Int64 := m_fold (fun j => m_ofM f n (j / 9) (j % 9)) (m_h4 f n k r) 45
def m_h6 (f : Nat → Int32) (n k r : Nat) : Int64 := m_fold (fun w => m_by f n r 20 w) (m_h5 f n k r) 5
def m_h7 (f : Nat → Int32) (n k r : Nat) : Int64 := 31 * (31 * (31 * m_h6 f n k r + (m_best f n).toInt64) + (m_clears f n r).toInt64) + (m_most f n 15).toInt64
def m_h8 (f : Nat → Int32) (n k r : Nat) : Int64 := 31 * m_h7 f n k r + (m_share f).toInt64
def m_h9 (f fi : Nat → Int32) (n k r : Nat) : Int64 := m_fold (fun j => if fi j = 0 then 0 else 1) (m_h8 f n k r) 2
def m_h10 (f fi : Nat → Int32) (n k r ty : Nat) : Int64 := 31 * m_h9 f fi n k r + (nI ty).toInt64
def m_dig (f fi tx : Nat → Int32) (n k r ty : Nat) : Int64 := m_fold tx (m_h10 f fi n k r ty) ty
def m_allOk (f : Nat → Int32) (n : Nat) : Prop := ∀ rr, rr < 6 → ∀ j, j < 200 → m_layOk (m_days (upd f 5 (nI rr)) n rr j) n
theorem m_upd5 {f : Nat → Int32} {r : Nat} (h : f 5 = nI r) : upd f 5 (nI r) = f := by
  funext j
  unfold upd
  split
  · rename_i e; rw [e, h]
  · rfl
theorem m_allOk_at {f : Nat → Int32} {n r : Nat} (h : m_allOk f n) (hr : r < 6) (h5 : f 5 = nI r) {j : Nat} (hj : j < 200) : m_layOk (m_days f n r j) n := by
  have := h r hr j hj
  rw [m_upd5 h5] at this
  exact this
/-- the first state -/
def m_i0 : Nat → Int32 := upd (upd (upd (upd (fun _ => 0) 0 10) 1 1) 2 30) 3 8
def m_i1 : Nat → Nat → Int32
  | 0 => m_i0
  | r + 1 => upd (m_i1 r) (8 + 3 * r) 100
def m_i2 : Nat → Nat → Int32
  | 0 => m_i1 6
  | m + 1 => upd (upd (upd (m_i2 m) (54 + 7 * m) 100) (54 + 7 * m + 4) 9999) (54 + 7 * m + 5) (-1)
def m_init : Nat → Int32 := m_i2 5
