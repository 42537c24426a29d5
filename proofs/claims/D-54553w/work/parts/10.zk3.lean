/-! BASE LAYER 3: calls -/
set_option maxRecDepth 100000
def zOk (y : MethodName) (n : Nat) : Prop := y.cls ≠ "java/lang/invoke/MethodHandle" ∧ y.cls ≠ "java/lang/invoke/VarHandle" ∧ (parseMethodDescriptor y.desc).map (fun d => d.parameters.length) = some n
/-- links: static; virtual of the class's own; constructor; the same of nest mates; super -/
def zLS (own : String) (index : Nat) (y : MethodName) (bytes : ByteArray) (maxL : Nat) (ret : Option FieldType) (n : Nat) : Prop :=
  (Cond.methodLink own index y ∈ lw_all ∨ ∃ host, Cond.methodLinkNest own index y host ∈ z_nw) ∧ Cond.static y ∈ lw_all ∧ Cond.initialized y.cls ∈ lw_all ∧ Cond.code y bytes maxL ret ∈ lw_all ∧ zOk y n
def zLV (own : String) (index : Nat) (C : String) (y : MethodName) (bytes : ByteArray) (maxL : Nat) (ret : Option FieldType) (n : Nat) : Prop :=
  (Cond.methodLink own index y ∈ lw_all ∨ ∃ host, Cond.methodLinkNest own index y host ∈ z_nw) ∧ Cond.instanceMethod y ∈ lw_all ∧ Cond.selects C y y ∈ lw_all ∧ Cond.initialized C ∈ lw_all ∧ y.cls = C ∧ Cond.code y bytes maxL ret ∈ lw_all ∧ zOk y n
def zLI (own : String) (index : Nat) (y : MethodName) (bytes : ByteArray) (maxL : Nat) (n : Nat) : Prop :=
  (Cond.methodLink own index y ∈ lw_all ∨ ∃ host, Cond.methodLinkNest own index y host ∈ z_nw) ∧ Cond.instanceMethod y ∈ lw_all ∧ Cond.initialized y.cls ∈ lw_all ∧ y.name = "<init>" ∧ Cond.code y bytes maxL none ∈ lw_all ∧ zOk y n
def zLU (own : String) (index : Nat) (y : MethodName) (bytes : ByteArray) (maxL : Nat) (ret : Option FieldType) (n : Nat) : Prop :=
  Cond.methodLink own index y ∈ lw_all ∧ Cond.sameMethod y.cls y.cls y.name y.desc ∈ lw_all ∧ Cond.superclass own y.cls ∈ lw_all ∧ Cond.instanceMethod y ∈ lw_all ∧ Cond.initialized y.cls ∈ lw_all ∧ y.name ≠ "<init>" ∧ Cond.code y bytes maxL ret ∈ lw_all ∧ zOk y n
section ZC
variable {p : Program} {l : Launch} {e : Env} {R : Room} {s : State} {m : MethodId} {args : Array Value} {below : List Frame} {meth : Method} {c : Code} {H H0 : Heap} {locs : List Loc} {cells slots : Nat} {Q : State → Prop}
variable {cc : ByteArray} {pc nL : Nat} {ls : Array Slot} {rest : List Value} {own : String} {g : zG} {A : Nat → Prop} {gs : List va_W}
variable {y : MethodName} {bytes : ByteArray} {maxL n index mc ms : Nat} {ret : Option FieldType} {rm : Room} {Pic : Heap → Prop} {Qc : Array Value → State → Outcome → State → Prop} {free : Addr → Prop} {As : List Value} {b : Nat}
abbrev zRoom (R rm : Room) (maxL mc ms cells slots : Nat) : Prop := rm.cells = mc ∧ rm.slots = ms ∧ rm.frames + 1 ≤ R.frames ∧ 8 + (maxL + 11) + rm.locals ≤ R.locals ∧ cells + mc ≤ R.cells ∧ slots + ms ≤ R.slots
theorem zr_S (X : zX p s m c cc args own nL g) (hM : Met l y (ws_ y bytes maxL ret) rm (va_Pc As (zPre g Pic)) Qc mc ms free) (L : zLS own index y bytes maxL ret n) (hP : Pic H) (hS : va_S A s.heap H locs) (hA0 : ∀ q, A q → zb0 g ≤ q) (hls : ls.size = nL) (hn : As.length = n) (hW : (rest.map fun v => v.category).sum ≤ 8) (hR : zRoom R rm maxL mc ms cells slots) (hdg : decode cc pc = .ok (.invokestatic index, 3)) :
    va_Run p l e R s m args below meth c H locs cells slots mc ms (F0 m pc ls (As.reverse ++ rest)) rest (Qc As.toArray) free := by
  obtain ⟨hl, hst, hini, hcode, hd⟩ := L
  obtain ⟨r1, r2, r3, r4, r5⟩ := hR
  rcases hl with hl | ⟨host, hl⟩
  · exact va_runS X.fix hM (va_cwS n X.2.2.2.2.1 (lw_S hl hst hini hcode) rfl r1 r2 hd ⟨r3, r4⟩) ⟨z_blind, X.pre hS hA0 hP⟩ rfl hn hls rfl (lv_room hW) hdg r5
  · exact va_runSN X.fix hM ⟨va_cnB n X.2.2.2.2.1 (lw_meth hcode) rfl r1 r2 (X.nw hl) (X.w hini) hd ⟨r3, r4⟩, X.w hst, trivial⟩ ⟨z_blind, X.pre hS hA0 hP⟩ rfl hn hls rfl (lv_room hW) hdg r5
theorem zX.recv (X : zX p s m c cc args own nL g) {ci : Nat} {fs : List Value} {q : vw_C} (hc : z_cl[ci]? = some q) (hat : va_at g.1 z_cl (b, .inr (ci, fs)) H) : ∃ cell : Cell, H[b]? = some cell ∧ cell.vm.isStatics = false ∧ s.vm.findClass q.1 = some cell.cls :=
  va_recv X.K (va_P.one hat) hc (q0 := 0) rfl
theorem zr_V (X : zX p s m c cc args own nL g) {C : String} (hM : Met l y (ws_ y bytes maxL ret) rm (va_Pc (.ref b :: As) (zPre g Pic)) Qc mc ms free) (L : zLV own index C y bytes maxL ret n) {ci : Nat} {fs : List Value} {T : u_T} {N : Nat} (hc : z_cl[ci]? = some (C, T, N)) (hat : va_at g.1 z_cl (b, .inr (ci, fs)) H) (hP : Pic H) (hS : va_S A s.heap H locs) (hA0 : ∀ q, A q → zb0 g ≤ q) (hls : ls.size = nL) (hn : As.length = n) (hW : (rest.map fun v => v.category).sum ≤ 8) (hR : zRoom R rm maxL mc ms cells slots) (hdg : decode cc pc = .ok (.invokevirtual index, 3)) :
    va_Run p l e R s m args below meth c H locs cells slots mc ms (F0 m pc ls (As.reverse ++ .ref b :: rest)) rest (Qc (Value.ref b :: As).toArray) free := by
  obtain ⟨hl, hin, hse, hini, rfl, hcode, hd⟩ := L
  obtain ⟨r1, r2, r3, r4, r5⟩ := hR
  rcases hl with hl | ⟨host, hl⟩
  · exact va_runV X.fix hM (cwV n X.2.2.2.2.1 (lw_V hl hin hse hini hcode) rfl r1 r2 ⟨rfl, hd⟩ ⟨r3, r4⟩) ⟨z_blind, X.recv hc hat, X.pre hS hA0 hP⟩ rfl hn hls rfl (lv_room hW) hdg r5
  · exact va_runVN X.fix hM ⟨va_cnB n X.2.2.2.2.1 (lw_meth hcode) rfl r1 r2 (X.nw hl) (X.w hini) hd ⟨r3, r4⟩, X.w hin, X.w hse⟩ ⟨z_blind, X.recv hc hat, X.pre hS hA0 hP⟩ rfl hn hls rfl (lv_room hW) hdg r5
theorem zr_I (X : zX p s m c cc args own nL g) (hM : Met l y (ws_ y bytes maxL none) rm (va_Pc (.ref b :: As) (zPre g Pic)) Qc mc ms free) (L : zLI own index y bytes maxL n) (hP : Pic H) (hS : va_S A s.heap H locs) (hA0 : ∀ q, A q → zb0 g ≤ q) (hls : ls.size = nL) (hn : As.length = n) (hW : (rest.map fun v => v.category).sum ≤ 8) (hR : zRoom R rm maxL mc ms cells slots) (hdg : decode cc pc = .ok (.invokespecial index, 3)) :
    va_Run p l e R s m args below meth c H locs cells slots mc ms (F0 m pc ls (As.reverse ++ .ref b :: rest)) rest (Qc (Value.ref b :: As).toArray) free := by
  obtain ⟨hl, hin, hini, hy1, hcode, hd⟩ := L
  obtain ⟨r1, r2, r3, r4, r5⟩ := hR
  rcases hl with hl | ⟨host, hl⟩
  · exact va_runI X.fix hM (cwI n X.2.2.2.2.1 (lw_meth hcode) rfl r1 r2 (X.w hini) (X.w hl) (X.w hin) hy1 hd ⟨r3, r4⟩) ⟨z_blind, X.pre hS hA0 hP⟩ rfl hn hls rfl (lv_room hW) hdg r5
  · exact va_runIN X.fix hM ⟨va_cnB n X.2.2.2.2.1 (lw_meth hcode) rfl r1 r2 (X.nw hl) (X.w hini) hd ⟨r3, r4⟩, hy1, X.w hin⟩ ⟨z_blind, X.pre hS hA0 hP⟩ rfl hn hls rfl (lv_room hW) hdg r5
theorem zr_U (X : zX p s m c cc args own nL g) {C : String} (hM : Met l y (ws_ y bytes maxL ret) rm (va_Pc (.ref b :: As) (zPre g Pic)) Qc mc ms free) (L : zLU own index y bytes maxL ret n) {ci : Nat} {fs : List Value} {T : u_T} {N : Nat} (hc : z_cl[ci]? = some (C, T, N)) (hat : va_at g.1 z_cl (b, .inr (ci, fs)) H) (hP : Pic H) (hS : va_S A s.heap H locs) (hA0 : ∀ q, A q → zb0 g ≤ q) (hls : ls.size = nL) (hn : As.length = n) (hW : (rest.map fun v => v.category).sum ≤ 8) (hR : zRoom R rm maxL mc ms cells slots) (hdg : decode cc pc = .ok (.invokespecial index, 3)) :
    va_Run p l e R s m args below meth c H locs cells slots mc ms (F0 m pc ls (As.reverse ++ .ref b :: rest)) rest (Qc (Value.ref b :: As).toArray) free := by
  obtain ⟨hl, hsm, hsup, hin, hini, hno, hcode, hd⟩ := L
  obtain ⟨r1, r2, r3, r4, r5⟩ := hR
  have hT : GoodIn lw_all (va_wsSU own index y (ws_ y bytes maxL ret)) := by
    refine lw_app ?_ (lw_meth hcode)
    intro w hw
    simp only [List.mem_cons, List.not_mem_nil, or_false] at hw
    rcases hw with e | e | e | e | e <;> rw [e] <;> assumption
  exact va_runSU (X.K.1 ci _ hc).2 X.fix hM (va_cwSU n X.2.2.2.2.1 hT rfl r1 r2 ⟨hno, hd.2.2⟩ ⟨r3, r4⟩) ⟨z_blind, X.recv hc hat, X.pre hS hA0 hP⟩ rfl hn hls rfl (lv_room hW) hdg r5
/-! behind the call -/
theorem zc_ro {v : Value} {a : Array Value} {st0 : List Value} (hr : va_Run p l e R s m args below meth c H locs cells slots 0 0 (F0 m pc ls st0) rest (zQR v a) (fun _ => False))
    (kk : W p l e R s m args below meth c H locs cells slots Q (F0 m (pc + 3) ls (v :: rest))) : W p l e R s m args below meth c H locs cells slots Q (F0 m pc ls st0) := by
  intro T hT X
  obtain ⟨v', st₀, t, T', L, h0, X', hL, e1, -, ⟨hv, hh⟩, st⟩ := hr T hT X
  cases hv
  obtain ⟨t2, a1, b1⟩ := kk T' (by rw [e1, hh, h0]) (Stand.forget X' (fun q h => (hL q h).elim))
  exact ⟨t2, st t2 a1, b1⟩
theorem zc_r0 {a : Array Value} {st0 : List Value} (hr : va_Run p l e R s m args below meth c H locs cells slots 0 0 (F0 m pc ls st0) rest (zQ0 a) (fun _ => False))
    (kk : W p l e R s m args below meth c H locs cells slots Q (F0 m (pc + 3) ls rest)) : W p l e R s m args below meth c H locs cells slots Q (F0 m pc ls st0) := by
  intro T hT X
  obtain ⟨v', st₀, t, T', L, h0, X', hL, e1, -, ⟨hv, hh⟩, st⟩ := hr T hT X
  cases hv
  obtain ⟨t2, a1, b1⟩ := kk T' (by rw [e1, hh, h0]) (Stand.forget X' (fun q h => (hL q h).elim))
  exact ⟨t2, st t2 a1, b1⟩
/-- what a callee's world leaves of the caller's -/
theorem zW.join {gc gr gc' : List va_W} {H1 : Heap} (h : zW g A (gc ++ gr) H) (hA : ∀ q, H.size ≤ q → A q) (h' : zW g (va_A gc.flatten H.size) gc' H1) (hk : ∀ q : Nat, q < H.size → ¬ va_A gc.flatten H.size q → H1[q]? = H[q]?) : zW g A (gc' ++ gr) H1 := by
  obtain ⟨hP, hD⟩ := h
  rw [List.flatten_append] at hP hD
  have hnd := hD.nodup
  rw [List.map_append] at hnd
  obtain ⟨n1, n2, n3⟩ := List.nodup_append.mp hnd
  have apart : ∀ q ∈ gr.flatten, ¬ va_A gc.flatten H.size q.1 := by
    intro q hq h
    rcases h with ⟨k, e, hk⟩ | h
    · exact n3 q.1 (List.mem_map.mpr ⟨(q.1, e), List.mem_of_getElem? hk, rfl⟩) q.1 (List.mem_map.mpr ⟨q, hq, rfl⟩) rfl
    · have := (va_P.mem hP (List.mem_append_right _ hq)).lt
      omega
  have hin : ∀ q, va_A gc.flatten H.size q → A q := by
    intro q h
    rcases h with ⟨k, e, hk⟩ | h
    · exact hD.memA (q := (q, e)) (List.mem_append_left _ (List.mem_of_getElem? hk))
    · exact hA q h
  refine ⟨?_, ?_⟩
  · rw [List.flatten_append]
    refine va_P.app h'.1 (va_P.of_mem (fun q hq => ?_))
    have h1 := va_P.mem hP (List.mem_append_right _ hq)
    exact h1.kept (hk q.1 h1.lt (apart q hq))
  · rw [List.flatten_append]
    refine va_D.of_nodup ?_ (fun q hq => ?_)
    · rw [List.map_append]
      refine List.nodup_append.mpr ⟨h'.2.nodup, n2, ?_⟩
      intro a ha b hb hab
      subst hab
      obtain ⟨q1, h1, h2⟩ := List.mem_map.mp ha
      obtain ⟨q2, h3, h4⟩ := List.mem_map.mp hb
      exact apart q2 h3 (by rw [h4, ← h2]; exact h'.2.memA h1)
    · rcases List.mem_append.mp hq with hq | hq
      · exact hin _ (h'.2.memA hq)
      · exact hD.memA (List.mem_append_right _ hq)
theorem zc_wr {gc gr : List va_W} {post : Option Value → List va_W → Prop} {a : Array Value} {st0 : List Value} (hr : va_Run p l e R s m args below meth c H locs cells slots mc ms (F0 m pc ls st0) rest (zQW g gc post a) (va_A gc.flatten H.size))
    (hW : zW g A (gc ++ gr) H) (hS : va_S A H0 H locs) (hA : ∀ q, H0.size ≤ q → A q)
    (kk : ∀ (v : Option Value) (gc' : List va_W) (H1 : Heap) (locs1 : List Loc), post v gc' → zW g A (gc' ++ gr) H1 → va_S A H0 H1 locs1 → W p l e R s m args below meth c H1 locs1 (cells + mc) (slots + ms) Q (F0 m (pc + 3) ls (v.toList ++ rest))) : W p l e R s m args below meth c H locs cells slots Q (F0 m pc ls st0) := by
  intro T hT X
  obtain ⟨v', st₀, t, T', L, h0, X', hL, e1, -, ⟨v, gc', hv, hp, hWc, hF⟩, st⟩ := hr T hT X
  cases hv
  have hin : ∀ q, va_A gc.flatten H.size q → A q := by
    intro q h
    rcases h with ⟨k, e, hk⟩ | h
    · exact hW.left.2.memA (q := (q, e)) (List.mem_of_getElem? hk)
    · exact hA q (Nat.le_trans hS.1 h)
  subst h0
  have hS' : va_S A H0 t.heap (locs ++ L) := by
    refine ⟨Nat.le_trans hS.1 hF.1, fun q h1 h2 => ?_, fun z hz => ?_⟩
    · rw [hF.2 q (Nat.lt_of_lt_of_le h1 hS.1) (fun h => h2 (hin q h))]
      exact hS.2.1 q h1 h2
    · rcases List.mem_append.mp hz with hz | hz
      · exact hS.2.2 z hz
      · exact hin _ (hL z hz)
  obtain ⟨t2, a1, b1⟩ := kk v' gc' t.heap (locs ++ L) hp (zW.join hW (fun q h => hA q (Nat.le_trans hS.1 h)) hWc hF.2) hS' T' e1 X'
  exact ⟨t2, st t2 a1, b1⟩
/-- a callee's precondition out of the caller's world -/
theorem zW.pre {gc gr : List va_W} (hW : zW g A (gc ++ gr) H) (hA0 : ∀ q, A q → zb0 g ≤ q) : H.size = H.size ∧ zW g (fun q => zb0 g ≤ q) gc H := ⟨rfl, hW.left.weak hA0⟩
/-! new objects and arrays -/
def zNew (own : String) (index ci : Nat) (fs : List Value) (N : Nat) : Prop := ∃ (C : String) (T : u_T) (ty : Nat → FieldType), z_cl[ci]? = some (C, T, N) ∧ (∀ w ∈ u_ws C T N, w ∈ lw_all) ∧ (∀ k, k < N → parseFieldDescriptor (T k).2.2.1 = some (ty k)) ∧
  Cond.classLink own index C ∈ lw_all ∧ Cond.instantiable C N ∈ lw_all ∧ Cond.initialized C ∈ lw_all ∧ ∀ j, j < N → defaultValue (ty j) = vp_V fs j
theorem zW.push {q : Nat} {en : va_E} (h1 : va_P g.1 z_cl (gs.flatten ++ [(q, en)]) H) (h2 : va_D A (gs.flatten ++ [(q, en)])) : zW g A (gs ++ [[(q, en)]]) H := by
  have e : (gs ++ [[(q, en)]]).flatten = gs.flatten ++ [(q, en)] := by simp
  exact ⟨by rw [e]; exact h1, by rw [e]; exact h2⟩
theorem z_new (X : zX p s m c cc args own nL g) (hW : zW g A gs H) (hS : va_S A s.heap H locs) (hA : ∀ q, s.heap.size ≤ q → A q) {index ci N : Nat} {fs : List Value} (F : zNew own index ci fs N) (hc : cells + 1 ≤ R.cells) (hs : slots + N ≤ R.slots) (hdg : decode cc pc = .ok (.new index, 3))
    (kk : ∀ (q : Nat) (H1 : Heap), zW g A (gs ++ [[(q, .inr (ci, fs))]]) H1 → va_S A s.heap H1 locs → W p l e R s m args below meth c H1 locs (cells + 1) (slots + N) Q (F0 m (pc + 3) ls (.ref q :: rest))) : W p l e R s m args below meth c H locs cells slots Q (F0 m pc ls rest) := by
  obtain ⟨C, T, ty, h1, h2, h3, h4, h5, h6, h7⟩ := F
  exact va_new X.1 X.2.1 X.2.2.2.2.1 h2 ty h3 X.2.2.2.1 (X.w h4) (X.w h5) (X.w h6) X.K hW.1 hW.2 hS hA h1 h7 hc hs hdg (fun q H1 hP hD hS => kk q H1 (zW.push hP hD) hS)
theorem z_cls {cA cB : ClassId} {ty : FieldType} (h1 : va_RA s cA ty) (h2 : va_RA s cB ty) : cA = cB := by
  cases ty with
  | object C =>
    obtain ⟨_, _, -, -, -, e1⟩ := h1
    obtain ⟨_, _, -, -, -, e2⟩ := h2
    exact Option.some.inj (e1.symm.trans e2)
  | _ => exact Option.some.inj (h1.symm.trans h2)
theorem z_newa (X : zX p s m c cc args own nL g) (hW : zW g A gs H) (hS : va_S A s.heap H locs) (hA : ∀ q, s.heap.size ≤ q → A q) {atype : ArrayType} {ty : FieldType} {cA : ClassId} (t0 : Nat) (harr : Cond.arrayClass (newarray.typeOf atype) ∈ lw_all) (hty : newarray.typeOf atype = ty) (ht : (z_tys g)[t0]? = some (cA, ty)) {k : Nat} {x : Int32} {a0 : vp_A} (ha : ∀ cA : ClassId, vp_cell cA a0 = arrV cA k (fun _ => defaultValue ty)) (hx : x = nI k) (hk : k ≤ 65536) (hb : k * componentBytes ty ≤ 536870912) (hc : cells + 1 ≤ R.cells) (hs : slots + k ≤ R.slots) (hdg : decode cc pc = .ok (.newarray atype, 2))
    (kk : ∀ (q : Nat) (H1 : Heap), zW g A (gs ++ [[(q, .inl (cA, a0))]]) H1 → va_S A s.heap H1 locs → W p l e R s m args below meth c H1 locs (cells + 1) (slots + k) Q (F0 m (pc + 2) ls (.ref q :: rest))) : W p l e R s m args below meth c H locs cells slots Q (F0 m pc ls (.int x :: rest)) := by
  refine va_newa X.1 X.2.1 (X.w harr) hty X.K hW.1 hW.2 hS hA ha (by rw [hx]; exact nI_pos (by omega)) (by rw [hx]; exact nI_clamp (by omega)) hb hc hs hdg (fun q cB H1 hK hP hD hS => ?_)
  have e : cA = cB := by
    have h1 := (X.K.2 t0 _ ht).2
    have h2 := (hK.2 (z_tys g).length (cB, ty) (by simp)).2
    exact z_cls h1 h2
  subst e
  exact kk q H1 (zW.push hP hD) hS
theorem z_newq (X : zX p s m c cc args own nL g) (hW : zW g A gs H) (hS : va_S A s.heap H locs) (hA : ∀ q, s.heap.size ≤ q → A q) {C : String} {index : Nat} {cA : ClassId} (t0 : Nat) (hlk : Cond.classLink own index C ∈ lw_all) (hov : va_AO C s) (ht : (z_tys g)[t0]? = some (cA, .object C)) {k : Nat} {x : Int32} (hx : x = nI k) (hk : k ≤ 65536) (hc : cells + 1 ≤ R.cells) (hs : slots + k ≤ R.slots) (hdg : decode cc pc = .ok (.anewarray index, 3))
    (kk : ∀ (q : Nat) (H1 : Heap), zW g A (gs ++ [[(q, .inl (cA, k, .inr (.inr (.inr (.inr (fun _ => none))))))]]) H1 → va_S A s.heap H1 locs → W p l e R s m args below meth c H1 locs (cells + 1) (slots + k) Q (F0 m (pc + 3) ls (.ref q :: rest))) : W p l e R s m args below meth c H locs cells slots Q (F0 m pc ls (.int x :: rest)) := by
  refine va_newq X.1 X.2.1 X.2.2.2.1 (X.w hlk) hov X.K hW.1 hW.2 hS hA (by rw [hx]; exact nI_pos (by omega)) (by rw [hx]; exact nI_clamp (by omega)) (by omega) hc hs hdg (fun q cB H1 hK hP hD hS => ?_)
  have e : cA = cB := by
    have h1 := (X.K.2 t0 _ ht).2
    have h2 := (hK.2 (z_tys g).length (cB, .object C) (by simp)).2
    exact z_cls h1 h2
  subst e
  exact kk q H1 (zW.push hP hD) hS
/-! a checked cast to the object's own class -/
theorem z_cast (X : zX p s m c cc args own nL g) {index ci a : Nat} {fs : List Value} {C : String} {T : u_T} {N : Nat} (hc : z_cl[ci]? = some (C, T, N)) (hat : va_at g.1 z_cl (a, .inr (ci, fs)) H) (hlk : Cond.classLink own index C ∈ lw_all) (hdg : decode cc pc = .ok (.checkcast index, 3))
    (kk : W p l e R s m args below meth c H locs cells slots Q (F0 m (pc + 3) ls (.ref a :: rest))) : W p l e R s m args below meth c H locs cells slots Q (F0 m pc ls (.ref a :: rest)) :=
  va_castS X.1 X.2.1 X.2.2.2.1 (X.w hlk) (X.K.1 ci _ hc).2 (X.recv hc hat) hdg kk
/-- an array's contents matter within its length alone -/
theorem z_arrEq {cA : ClassId} {n : Nat} {f f' : Nat → Int32} (h : ∀ k, k < n → f k = f' k) : vp_cell cA (n, .inl f) = vp_cell cA (n, .inl f') := by
  show arrV cA n (fun j => .int (f j)) = arrV cA n (fun j => .int (f' j))
  unfold arrV
  congr 1
  apply Array.ext
  · simp
  · intro i h1 h2
    simp at h1 ⊢
    exact h i h1
theorem zW.arr (h : zW g A gs H) (i j : Nat) {G : va_W} {a : Nat} {cA : ClassId} {n : Nat} {f f' : Nat → Int32} (hi : gs[i]? = some G) (hj : G[j]? = some (a, .inl (cA, n, .inl f))) (he : ∀ k, k < n → f k = f' k) : zW g A (gs.set i (G.set j (a, .inl (cA, n, .inl f')))) H := by
  obtain ⟨p0, h1, h2⟩ := z_flatPos hi hj
  refine ⟨?_, ?_⟩
  · rw [← h2]
    refine va_P.set h.1 h.2 h1 ?_ (fun _ _ => rfl)
    have h3 := h.1 p0 _ h1
    show H[a]? = some (vp_cell cA (n, .inl f'))
    rw [← z_arrEq he]; exact h3
  · rw [← h2]; exact va_D.set h.2 h1
theorem zH.arr {gs : List va_W} (h : zH g gs H) (i j : Nat) {G : va_W} {a : Nat} {cA : ClassId} {n : Nat} {f f' : Nat → Int32} (hi : gs[i]? = some G) (hj : G[j]? = some (a, .inl (cA, n, .inl f))) (he : ∀ k, k < n → f k = f' k) : va_at g.1 z_cl (a, .inl (cA, n, .inl f')) H := by
  have h3 := h.at i j hi hj
  show H[a]? = some (vp_cell cA (n, .inl f'))
  rw [← z_arrEq he]; exact h3
/-! an answer that is 0 or 1 -/
def zb (b : Bool) : Int32 := if b then 1 else 0
theorem zb_ifeq (hx : p.tables.exec = Jvm.exec) (hb : c.code = cc) {b : Bool} {off : Int} {tgt : Nat} (hdg : decode cc pc = .ok (.ifCond .eq off, 3)) (ht : (pc : Int) + off = (tgt : Int))
    (kt : b = false → W p l e R s m args below meth c H locs cells slots Q (F0 m tgt ls rest)) (kf : b = true → W p l e R s m args below meth c H locs cells slots Q (F0 m (pc + 3) ls rest)) : W p l e R s m args below meth c H locs cells slots Q (F0 m pc ls (.int (zb b) :: rest)) := by
  refine lv_if_eq hx hb hdg ht (fun h => kt ?_) (fun h => kf ?_) <;> cases b <;> first | rfl | exact absurd h (by decide)
theorem zb_ifne (hx : p.tables.exec = Jvm.exec) (hb : c.code = cc) {b : Bool} {off : Int} {tgt : Nat} (hdg : decode cc pc = .ok (.ifCond .ne off, 3)) (ht : (pc : Int) + off = (tgt : Int))
    (kt : b = true → W p l e R s m args below meth c H locs cells slots Q (F0 m tgt ls rest)) (kf : b = false → W p l e R s m args below meth c H locs cells slots Q (F0 m (pc + 3) ls rest)) : W p l e R s m args below meth c H locs cells slots Q (F0 m pc ls (.int (zb b) :: rest)) := by
  refine lv_if_ne hx hb hdg ht (fun h => kt ?_) (fun h => kf ?_) <;> cases b <;> first | rfl | exact absurd h (by decide)
theorem z_stk {a b : List Value} (h : a = b) (k : W p l e R s m args below meth c H locs cells slots Q (F0 m pc ls b)) : W p l e R s m args below meth c H locs cells slots Q (F0 m pc ls a) := h ▸ k
theorem zb_fit (b : Bool) : fits .boolean (.int (zb b)) = true := by cases b <;> rfl
theorem zb_nar (b : Bool) : narrow .boolean (.int (zb b)) = .int (zb b) := by cases b <;> rfl
theorem zn_lt {x y : Int32} {a b : Nat} (hx : x = nI a) (hy : y = nI b) (ha : a < 2147483648) (hb : b < 2147483648) : x < y ↔ a < b := by rw [hx, hy]; exact nI_ltI ha hb
theorem zn_le {x y : Int32} {a b : Nat} (hx : x = nI a) (hy : y = nI b) (ha : a < 2147483648) (hb : b < 2147483648) : x ≤ y ↔ a ≤ b := by rw [hx, hy]; exact nI_leI ha hb
theorem zn_eq {x y : Int32} {a b : Nat} (hx : x = nI a) (hy : y = nI b) (ha : a < 2147483648) (hb : b < 2147483648) : x = y ↔ a = b := by rw [hx, hy]; exact nI_eq ha hb
/-! Math -/
def jmax (x y : Int32) : Int32 := if x < y then y else x
def jmin (x y : Int32) : Int32 := if y < x then y else x
def jabs (x : Int32) : Int32 := if 0 ≤ x then x else 0 - x
theorem z_mmax (X : zX p s m c cc args own nL g) (hml : c.maxLocals = ls.size) {index : Nat} (h1 : Cond.methodLink own index Lib.Math.max.name ∈ lw_all) (h2 : Cond.static Lib.Math.max.name ∈ lw_all) (h3 : Cond.initialized "java/lang/Math" ∈ lw_all) (h4 : Cond.code Lib.Math.max.name Lib.Math.max.code 2 (some .int) ∈ lw_all) (hf : 1 ≤ R.frames) (hlo : (rest.map fun v => v.category).sum + 13 ≤ R.locals) (hc : cells ≤ R.cells) (hs : slots ≤ R.slots) {x y : Int32} (hdg : decode cc pc = .ok (.invokestatic index, 3))
    (kk : W p l e R s m args below meth c H locs cells slots Q (F0 m (pc + 3) ls (.int (jmax x y) :: rest))) : W p l e R s m args below meth c H locs cells slots Q (F0 m pc ls (.int y :: .int x :: rest)) :=
  va_mmax X.1 X.2.1 hml X.2.2.2.1 (X.w h1) (X.w h2) (X.w h3) (X.w h4) hf hlo hc hs hdg kk
theorem z_mmin (X : zX p s m c cc args own nL g) (hml : c.maxLocals = ls.size) {index : Nat} (h1 : Cond.methodLink own index Lib.Math.min.name ∈ lw_all) (h2 : Cond.static Lib.Math.min.name ∈ lw_all) (h3 : Cond.initialized "java/lang/Math" ∈ lw_all) (h4 : Cond.code Lib.Math.min.name Lib.Math.min.code 2 (some .int) ∈ lw_all) (hf : 1 ≤ R.frames) (hlo : (rest.map fun v => v.category).sum + 13 ≤ R.locals) (hc : cells ≤ R.cells) (hs : slots ≤ R.slots) {x y : Int32} (hdg : decode cc pc = .ok (.invokestatic index, 3))
    (kk : W p l e R s m args below meth c H locs cells slots Q (F0 m (pc + 3) ls (.int (jmin x y) :: rest))) : W p l e R s m args below meth c H locs cells slots Q (F0 m pc ls (.int y :: .int x :: rest)) :=
  va_mmin X.1 X.2.1 hml X.2.2.2.1 (X.w h1) (X.w h2) (X.w h3) (X.w h4) hf hlo hc hs hdg kk
theorem z_mabs (X : zX p s m c cc args own nL g) (hml : c.maxLocals = ls.size) {index : Nat} (h1 : Cond.methodLink own index Lib.Math.abs.name ∈ lw_all) (h2 : Cond.static Lib.Math.abs.name ∈ lw_all) (h3 : Cond.initialized "java/lang/Math" ∈ lw_all) (h4 : Cond.code Lib.Math.abs.name Lib.Math.abs.code 1 (some .int) ∈ lw_all) (hf : 1 ≤ R.frames) (hlo : (rest.map fun v => v.category).sum + 13 ≤ R.locals) (hc : cells ≤ R.cells) (hs : slots ≤ R.slots) {x : Int32} (hdg : decode cc pc = .ok (.invokestatic index, 3))
    (kk : W p l e R s m args below meth c H locs cells slots Q (F0 m (pc + 3) ls (.int (jabs x) :: rest))) : W p l e R s m args below meth c H locs cells slots Q (F0 m pc ls (.int x :: rest)) :=
  va_mabs X.1 X.2.1 hml X.2.2.2.1 (X.w h1) (X.w h2) (X.w h3) (X.w h4) hf hlo hc hs hdg kk
end ZC
