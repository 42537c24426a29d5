/-! BASE LAYER 2: how a contract starts and ends; instructions over groups; calls -/
set_option maxRecDepth 100000
section ZB
variable {p : Program} {l : Launch} {e : Env} {R : Room} {s : State} {m : MethodId} {args : Array Value} {below : List Frame} {meth : Method} {c : Code} {H H0 : Heap} {locs : List Loc} {cells slots : Nat} {Q : State → Prop}
variable {cc : ByteArray} {pc nL : Nat} {ls : Array Slot} {rest : List Value} {own : String} {g : zG} {A : Nat → Prop} {gs : List va_W}
theorem zX.fix (X : zX p s m c cc args own nL g) : CallFix p m c cc nL s args lw_all own := ⟨X.1, X.2.1, X.2.2.1, X.2.2.2.1, X.2.2.2.2.1⟩
theorem zX.K (X : zX p s m c cc args own nL g) : va_K g.1 z_cl (z_tys g) s := X.2.2.2.2.2.1.1
theorem zX.w (X : zX p s m c cc args own nL g) {w : Cond} (h : w ∈ lw_all) : w.before args s = true := X.2.2.2.2.1 w h
theorem zX.nw (X : zX p s m c cc args own nL g) {w : Cond} (h : w ∈ z_nw) : va_Nw w s := X.2.2.2.2.2.1.2.1 w h
theorem zX.Z (X : zX p s m c cc args own nL g) : z_Z g s s.heap := X.2.2.2.2.2.2.1
/-- the precondition at a call -/
theorem zX.pre (X : zX p s m c cc args own nL g) (hS : va_S A s.heap H locs) (hA0 : ∀ q, A q → zb0 g ≤ q) {Pic : Heap → Prop} (hP : Pic H) {av : List Value} : ∀ U : State, U.heap = H → s.WarmedH U.vm → va_Pc av (zPre g Pic) av.toArray U := by
  intro U hU hW
  refine ⟨rfl, z_K.moved hW X.2.2.2.2.2.1, ?_, ?_, by rw [hU]; exact hP⟩
  · rw [hU]
    exact z_Z.moved hW.alike (z_Z.kept X.Z (fun a h1 h2 => hS.2.1 a h1 (fun h => h2 (hA0 a h))))
  · rw [hU]; exact Nat.le_trans X.2.2.2.2.2.2.2 hS.1
/-- a contract that reads: its start -/
theorem zRO.start {y : MethodName} {ret : Option FieldType} {rm : Room} {av : List Value} {Pic : Heap → Prop} {v : Value} (hy : plainName y.cls = true) (hn : (lg_sl av).length ≤ nL)
    (body : ∀ (p : Program) (e : Env) (s : State) (m : MethodId) (below : List Frame) (meth : Method) (c : Code) (ls : Array Slot), zX p s m c cc av.toArray y.cls nL g → meth.sig.returnType = ret → meth.locks = false → Pic s.heap → lv_has ls nL (lv_args 0 av) → va_S (fun _ => False) s.heap s.heap [] → (∀ q : Nat, (fun _ => False) q → zb0 g ≤ q) →
      W p l e rm s m av.toArray below meth c s.heap [] 0 0 (MQ below (zQR v) av.toArray s 0 0 (fun _ => False)) (F0 m 0 ls [])) : zRO l y cc nL ret rm g av Pic v := by
  refine Met.ofW (cc := cc) (maxL := nL) (ret := ret) hy rfl ?_
  intro p e s m args below meth c s₁ B hml hv
  obtain ⟨rfl, hK, hZ, hb0, hP⟩ := hv
  have hts := atoms_spec (ws := ws_ y cc nL ret) B.pre
  have hts : ∀ w ∈ lw_all, w.before _ s = true := fun w h => hts w (List.mem_cons_of_mem _ h)
  have hl := lv_entry av (n := nL) hn
  rw [lg_entry_eq]
  exact body p e s m below meth c _ ⟨B.exec, B.bytes, hml, findClass_of_methodNamed B.named, hts, hK, hZ, hb0⟩ B.returns B.notSynchronized hP hl va_S.rf (fun q h => absurd h id)
theorem zRV.start {y : MethodName} {rm : Room} {av : List Value} {Pic : Heap → Prop} (hy : plainName y.cls = true) (hn : (lg_sl av).length ≤ nL)
    (body : ∀ (p : Program) (e : Env) (s : State) (m : MethodId) (below : List Frame) (meth : Method) (c : Code) (ls : Array Slot), zX p s m c cc av.toArray y.cls nL g → meth.sig.returnType = none → meth.locks = false → Pic s.heap → lv_has ls nL (lv_args 0 av) → va_S (fun _ => False) s.heap s.heap [] → (∀ q : Nat, (fun _ => False) q → zb0 g ≤ q) →
      W p l e rm s m av.toArray below meth c s.heap [] 0 0 (MQ below zQ0 av.toArray s 0 0 (fun _ => False)) (F0 m 0 ls [])) : zRV l y cc nL rm g av Pic := by
  refine Met.ofW (cc := cc) (maxL := nL) (ret := none) hy rfl ?_
  intro p e s m args below meth c s₁ B hml hv
  obtain ⟨rfl, hK, hZ, hb0, hP⟩ := hv
  have hts := atoms_spec (ws := ws_ y cc nL none) B.pre
  have hts : ∀ w ∈ lw_all, w.before _ s = true := fun w h => hts w (List.mem_cons_of_mem _ h)
  have hl := lv_entry av (n := nL) hn
  rw [lg_entry_eq]
  exact body p e s m below meth c _ ⟨B.exec, B.bytes, hml, findClass_of_methodNamed B.named, hts, hK, hZ, hb0⟩ B.returns B.notSynchronized hP hl va_S.rf (fun q h => absurd h id)
/-- a contract that writes: its start -/
theorem zWR.start {y : MethodName} {ret : Option FieldType} {rm : Room} {av : List Value} {gs0 : List va_W} {mc ms sz : Nat} {post : Option Value → List va_W → Prop} (hy : plainName y.cls = true) (hn : (lg_sl av).length ≤ nL)
    (body : ∀ (p : Program) (e : Env) (s : State) (m : MethodId) (below : List Frame) (meth : Method) (c : Code) (ls : Array Slot) (A : Nat → Prop), zX p s m c cc av.toArray y.cls nL g → meth.sig.returnType = ret → meth.locks = false → (y.name = "<init>" → meth.name = "<init>") → lv_has ls nL (lv_args 0 av) → A = va_A gs0.flatten s.heap.size → zW g A gs0 s.heap → va_S A s.heap s.heap [] → (∀ q : Nat, s.heap.size ≤ q → A q) → (∀ q : Nat, A q → zb0 g ≤ q) →
      W p l e rm s m av.toArray below meth c s.heap [] 0 0 (MQ below (zQW g gs0 post) av.toArray s mc ms A) (F0 m 0 ls [])) : zWR l y cc nL ret rm g av gs0 mc ms sz post := by
  refine Met.ofW (cc := cc) (maxL := nL) (ret := ret) hy rfl ?_
  intro p e s m args below meth c s₁ B hml hv
  obtain ⟨rfl, hK, hZ, hb0, hsz, hP, hD⟩ := hv
  have hts := atoms_spec (ws := ws_ y cc nL ret) B.pre
  have hts : ∀ w ∈ lw_all, w.before _ s = true := fun w h => hts w (List.mem_cons_of_mem _ h)
  have hl := lv_entry av (n := nL) hn
  rw [lg_entry_eq]
  subst hsz
  refine body p e s m below meth c _ _ ⟨B.exec, B.bytes, hml, findClass_of_methodNamed B.named, hts, hK, hZ, hb0⟩ B.returns B.notSynchronized (fun h => (name_of_methodNamed B.named B.method).1.trans h) hl rfl ⟨hP, hD.self⟩ va_S.rf (fun q h => Or.inr h) (fun q h => ?_)
  rcases h with ⟨k, e, h⟩ | h
  · exact hD.2 k _ h
  · exact Nat.le_trans hb0 h
/-! ends -/
theorem zRO.iret (X : zX p s m c cc args own nL g) {v w : Int32} (hr : meth.sig.returnType = some .int) (hlocks : meth.locks = false) (h : w = v) (hdg : decode cc pc = .ok (.ireturn, 1)) :
    W p l e R s m args below meth c s.heap [] 0 0 (MQ below (zQR (.int v)) args s 0 0 (fun _ => False)) (F0 m pc ls [.int w]) := by
  subst h
  exact W.iret X.1 X.2.1 hr (fun t ht _ => ⟨rfl, ht⟩) (fun q h => by cases h) hdg
theorem zRO.zret (X : zX p s m c cc args own nL g) {v w : Int32} {ty : FieldType} (hr : meth.sig.returnType = some ty) (hn : narrow ty (.int v) = .int v) (hlocks : meth.locks = false) (h : w = v) (hdg : decode cc pc = .ok (.ireturn, 1)) :
    W p l e R s m args below meth c s.heap [] 0 0 (MQ below (zQR (.int v)) args s 0 0 (fun _ => False)) (F0 m pc ls [.int w]) := by
  subst h
  exact W.zret X.1 X.2.1 hr hn (fun t ht _ => ⟨rfl, ht⟩) (fun q h => by cases h) hdg
theorem zRO.lret (X : zX p s m c cc args own nL g) {v w : Int64} (hr : meth.sig.returnType = some .long) (hlocks : meth.locks = false) (h : w = v) (hdg : decode cc pc = .ok (.lreturn, 1)) :
    W p l e R s m args below meth c s.heap [] 0 0 (MQ below (zQR (.long v)) args s 0 0 (fun _ => False)) (F0 m pc ls [.long w]) := by
  subst h
  exact W.lret X.1 X.2.1 hr (fun t ht _ => ⟨rfl, ht⟩) (fun q h => by cases h) hdg
theorem zRO.dret (X : zX p s m c cc args own nL g) {v w : UInt64} (hr : meth.sig.returnType = some .double) (hlocks : meth.locks = false) (h : w = v) (hdg : decode cc pc = .ok (.dreturn, 1)) :
    W p l e R s m args below meth c s.heap [] 0 0 (MQ below (zQR (.double v)) args s 0 0 (fun _ => False)) (F0 m pc ls [.double w]) := by
  subst h
  exact W.dret X.1 X.2.1 hr (fun t ht _ => ⟨rfl, ht⟩) (fun q h => by cases h) hdg
theorem zRO.aret (X : zX p s m c cc args own nL g) {v w : Value} {rt : FieldType} (hr : meth.sig.returnType = some rt) (hrt : (∃ n, rt = .object n) ∨ ∃ t, rt = .array t) (hv : v = .null ∨ ∃ a, v = .ref a) (hlocks : meth.locks = false) (h : w = v) (hdg : decode cc pc = .ok (.areturn, 1)) :
    W p l e R s m args below meth c s.heap [] 0 0 (MQ below (zQR v) args s 0 0 (fun _ => False)) (F0 m pc ls [w]) := by
  subst h
  exact W.aret X.1 X.2.1 hr hrt hv (fun t ht _ => ⟨rfl, ht⟩) (fun q h => by cases h) hdg
theorem zRV.vret (X : zX p s m c cc args own nL g) (hr : meth.sig.returnType = none) (hlocks : meth.locks = false) (hdg : decode cc pc = .ok (.return_, 1)) :
    W p l e R s m args below meth c s.heap [] 0 0 (MQ below zQ0 args s 0 0 (fun _ => False)) (F0 m pc ls []) := by
  exact W.vret X.1 X.2.1 hr (fun t ht _ => ⟨rfl, ht⟩) (fun q h => by cases h) hdg
section WR
variable {gs0 : List va_W} {post : Option Value → List va_W → Prop} {mc ms : Nat}
theorem zQW.mk {t : State} {v : Option Value} (hAe : A = va_A gs0.flatten s.heap.size) (hW : zW g A gs H) (hS : va_S A s.heap H locs) (hp : post v gs) (ht : t.heap = H) : zQW g gs0 post args s (.returned v) t := by
  subst hAe
  exact ⟨v, gs, rfl, hp, by rw [ht]; exact hW, hS.F ht⟩
theorem zWR.iret (X : zX p s m c cc args own nL g) (hAe : A = va_A gs0.flatten s.heap.size) (hW : zW g A gs H) (hS : va_S A s.heap H locs) {v : Int32} (hr : meth.sig.returnType = some .int) (hlocks : meth.locks = false) (hp : post (some (.int v)) gs) (hc : cells ≤ mc) (hs : slots ≤ ms) (hdg : decode cc pc = .ok (.ireturn, 1)) :
    W p l e R s m args below meth c H locs cells slots (MQ below (zQW g gs0 post) args s mc ms A) (F0 m pc ls [.int v]) := by
  refine W.widen hc hs ?_
  exact W.iret X.1 X.2.1 hr (fun t ht _ => zQW.mk hAe hW hS hp ht) hS.2.2 hdg
theorem zWR.zret (X : zX p s m c cc args own nL g) (hAe : A = va_A gs0.flatten s.heap.size) (hW : zW g A gs H) (hS : va_S A s.heap H locs) {v : Int32} {ty : FieldType} (hr : meth.sig.returnType = some ty) (hn : narrow ty (.int v) = .int v) (hlocks : meth.locks = false) (hp : post (some (.int v)) gs) (hc : cells ≤ mc) (hs : slots ≤ ms) (hdg : decode cc pc = .ok (.ireturn, 1)) :
    W p l e R s m args below meth c H locs cells slots (MQ below (zQW g gs0 post) args s mc ms A) (F0 m pc ls [.int v]) := by
  refine W.widen hc hs ?_
  exact W.zret X.1 X.2.1 hr hn (fun t ht _ => zQW.mk hAe hW hS hp ht) hS.2.2 hdg
theorem zWR.lret (X : zX p s m c cc args own nL g) (hAe : A = va_A gs0.flatten s.heap.size) (hW : zW g A gs H) (hS : va_S A s.heap H locs) {v : Int64} (hr : meth.sig.returnType = some .long) (hlocks : meth.locks = false) (hp : post (some (.long v)) gs) (hc : cells ≤ mc) (hs : slots ≤ ms) (hdg : decode cc pc = .ok (.lreturn, 1)) :
    W p l e R s m args below meth c H locs cells slots (MQ below (zQW g gs0 post) args s mc ms A) (F0 m pc ls [.long v]) := by
  refine W.widen hc hs ?_
  exact W.lret X.1 X.2.1 hr (fun t ht _ => zQW.mk hAe hW hS hp ht) hS.2.2 hdg
theorem zWR.dret (X : zX p s m c cc args own nL g) (hAe : A = va_A gs0.flatten s.heap.size) (hW : zW g A gs H) (hS : va_S A s.heap H locs) {v : UInt64} (hr : meth.sig.returnType = some .double) (hlocks : meth.locks = false) (hp : post (some (.double v)) gs) (hc : cells ≤ mc) (hs : slots ≤ ms) (hdg : decode cc pc = .ok (.dreturn, 1)) :
    W p l e R s m args below meth c H locs cells slots (MQ below (zQW g gs0 post) args s mc ms A) (F0 m pc ls [.double v]) := by
  refine W.widen hc hs ?_
  exact W.dret X.1 X.2.1 hr (fun t ht _ => zQW.mk hAe hW hS hp ht) hS.2.2 hdg
theorem zWR.aret (X : zX p s m c cc args own nL g) (hAe : A = va_A gs0.flatten s.heap.size) (hW : zW g A gs H) (hS : va_S A s.heap H locs) {v : Value} {rt : FieldType} (hr : meth.sig.returnType = some rt) (hrt : (∃ n, rt = .object n) ∨ ∃ t, rt = .array t) (hv : v = .null ∨ ∃ a, v = .ref a) (hlocks : meth.locks = false) (hp : post (some v) gs) (hc : cells ≤ mc) (hs : slots ≤ ms) (hdg : decode cc pc = .ok (.areturn, 1)) :
    W p l e R s m args below meth c H locs cells slots (MQ below (zQW g gs0 post) args s mc ms A) (F0 m pc ls [v]) := by
  refine W.widen hc hs ?_
  exact W.aret X.1 X.2.1 hr hrt hv (fun t ht _ => zQW.mk hAe hW hS hp ht) hS.2.2 hdg
theorem zWR.vret (X : zX p s m c cc args own nL g) (hAe : A = va_A gs0.flatten s.heap.size) (hW : zW g A gs H) (hS : va_S A s.heap H locs) (hr : meth.sig.returnType = none) (hlocks : meth.locks = false) (hp : post none gs) (hc : cells ≤ mc) (hs : slots ≤ ms) (hdg : decode cc pc = .ok (.return_, 1)) :
    W p l e R s m args below meth c H locs cells slots (MQ below (zQW g gs0 post) args s mc ms A) (F0 m pc ls []) := by
  refine W.widen hc hs ?_
  exact W.vret X.1 X.2.1 hr (fun t ht _ => zQW.mk hAe hW hS hp ht) hS.2.2 hdg
end WR
/-! fields -/
def zF (own : String) (index ci k : Nat) : Prop := ∃ (C : String) (T : u_T) (N : Nat) (ref : String), z_cl[ci]? = some (C, T, N) ∧ (∀ w ∈ u_ws C T N, w ∈ lw_all) ∧ k < N ∧
  ((Cond.fieldLink own index ref (T k).2.1 (T k).2.2.1 ∈ lw_all) ∨ ∃ host, Cond.fieldLinkNest own index ref (T k).2.1 (T k).2.2.1 host ∈ z_nw) ∧ (ref = (T k).1 ∨ Cond.sameField ref (T k).1 (T k).2.1 (T k).2.2.1 ∈ lw_all)
def zP (own : String) (index ci k : Nat) (ty : FieldType) : Prop := ∃ (C : String) (T : u_T) (N : Nat) (ref : String) (ty0 : Nat → FieldType), z_cl[ci]? = some (C, T, N) ∧ (∀ w ∈ u_ws C T N, w ∈ lw_all) ∧ k < N ∧
  ((Cond.fieldLink own index ref (T k).2.1 (T k).2.2.1 ∈ lw_all) ∨ ∃ host, Cond.fieldLinkNest own index ref (T k).2.1 (T k).2.2.1 host ∈ z_nw) ∧ (ref = (T k).1 ∨ Cond.sameField ref (T k).1 (T k).2.1 (T k).2.2.1 ∈ lw_all) ∧
  (∀ k, k < N → parseFieldDescriptor (T k).2.2.1 = some (ty0 k)) ∧ (∀ a, a < N → ∀ b, b < N → a ≠ b → (T a).2.1 ≠ (T b).2.1) ∧ parseFieldDescriptor (T k).2.2.1 = some ty ∧ (T k).2.2.2 = false
theorem z_same (X : zX p s m c cc args own nL g) {ref o n d : String} (h : ref = o ∨ Cond.sameField ref o n d ∈ lw_all) : ∀ x, s.fieldFound? o n d = some x → s.fieldFound? ref n d = some x := by
  intro x hx
  rcases h with rfl | h
  · exact hx
  · exact u_same (X.w h) x hx
theorem z_get (X : zX p s m c cc args own nL g) {a index ci k : Nat} {fs : List Value} (hat : va_at g.1 z_cl (a, .inr (ci, fs)) H) (F : zF own index ci k) {v : Value} (hv : fs[k]? = some v) (hdg : decode cc pc = .ok (.getfield index, 3))
    (kk : W p l e R s m args below meth c H locs cells slots Q (F0 m (pc + 3) ls (v :: rest))) : W p l e R s m args below meth c H locs cells slots Q (F0 m pc ls (.ref a :: rest)) := by
  obtain ⟨C, T, N, ref, hc, hin, hk, hl, hs⟩ := F
  rcases hl with hl | ⟨host, hl⟩
  · exact va_get X.1 X.2.1 X.2.2.2.2.1 hin X.2.2.2.1 X.K (va_P.one hat) 0 rfl hc k hk (X.w hl) (z_same X hs) hv hdg kk
  · exact va_getN X.1 X.2.1 X.2.2.2.2.1 hin X.2.2.2.1 X.K (va_P.one hat) 0 rfl hc k hk (va_Nw.use rfl (X.nw hl)) (z_same X hs) hv hdg kk
theorem z_put (X : zX p s m c cc args own nL g) (hW : zW g A gs H) (hS : va_S A H0 H locs) (i j : Nat) {a index ci k : Nat} {fs : List Value} {G : va_W} (hi : gs[i]? = some G) (hj : G[j]? = some (a, .inr (ci, fs))) {ty : FieldType} (F : zP own index ci k ty) {v : Value} (hn : narrow ty v = v) (hfit : fits ty v = true) (hl : k < fs.length) (hdg : decode cc pc = .ok (.putfield index, 3))
    (kk : ∀ (H1 : Heap) (locs1 : List Loc), zW g A (gs.set i (G.set j (a, .inr (ci, fs.set k v)))) H1 → va_S A H0 H1 locs1 → W p l e R s m args below meth c H1 locs1 cells slots Q (F0 m (pc + 3) ls rest)) : W p l e R s m args below meth c H locs cells slots Q (F0 m pc ls (v :: .ref a :: rest)) := by
  obtain ⟨C, T, N, ref, ty0, hc, hin, hk, hlk, hs, hty, hnm, hd, hfin⟩ := F
  obtain ⟨p0, h1, h2⟩ := z_flatPos hi hj
  have kk' : ∀ (H1 : Heap) (locs1 : List Loc), va_P g.1 z_cl (gs.flatten.set p0 (a, .inr (ci, fs.set k v))) H1 → va_D A (gs.flatten.set p0 (a, .inr (ci, fs.set k v))) → va_S A H0 H1 locs1 → W p l e R s m args below meth c H1 locs1 cells slots Q (F0 m (pc + 3) ls rest) := by
    intro H1 locs1 hP hD hS
    rw [h2] at hP hD
    exact kk H1 locs1 ⟨hP, hD⟩ hS
  rcases hlk with hlk | ⟨host, hlk⟩
  · exact va_put X.1 X.2.1 X.2.2.2.2.1 hin ty0 hty hnm X.2.2.2.1 X.K hW.1 hW.2 hS p0 h1 hc k hk (X.w hlk) (z_same X hs) hfin hd hn hfit hl hdg kk'
  · exact va_putN X.1 X.2.1 X.2.2.2.2.1 hin ty0 hty hnm X.2.2.2.1 X.K hW.1 hW.2 hS p0 h1 hc k hk (va_Nw.use rfl (X.nw hlk)) (z_same X hs) hfin hd hn hfit hl hdg kk'
def zPF (own : String) (index ci k : Nat) (ty : FieldType) : Prop := ∃ (C : String) (T : u_T) (N : Nat) (ty0 : Nat → FieldType), z_cl[ci]? = some (C, T, N) ∧ (∀ w ∈ u_ws C T N, w ∈ lw_all) ∧ k < N ∧
  (Cond.fieldLink own index own (T k).2.1 (T k).2.2.1 ∈ lw_all) ∧ (T k).1 = own ∧
  (∀ k, k < N → parseFieldDescriptor (T k).2.2.1 = some (ty0 k)) ∧ (∀ a, a < N → ∀ b, b < N → a ≠ b → (T a).2.1 ≠ (T b).2.1) ∧ parseFieldDescriptor (T k).2.2.1 = some ty ∧ (T k).2.2.2 = true
theorem z_putF (X : zX p s m c cc args own nL g) (hin2 : meth.name = "<init>") (hW : zW g A gs H) (hS : va_S A H0 H locs) (i j : Nat) {a index ci k : Nat} {fs : List Value} {G : va_W} (hi : gs[i]? = some G) (hj : G[j]? = some (a, .inr (ci, fs))) {ty : FieldType} (F : zPF own index ci k ty) {v : Value} (hn : narrow ty v = v) (hfit : fits ty v = true) (hl : k < fs.length) (hdg : decode cc pc = .ok (.putfield index, 3))
    (kk : ∀ (H1 : Heap) (locs1 : List Loc), zW g A (gs.set i (G.set j (a, .inr (ci, fs.set k v)))) H1 → va_S A H0 H1 locs1 → W p l e R s m args below meth c H1 locs1 cells slots Q (F0 m (pc + 3) ls rest)) : W p l e R s m args below meth c H locs cells slots Q (F0 m pc ls (v :: .ref a :: rest)) := by
  obtain ⟨C, T, N, ty0, hc, hin, hk, hlk, hdecl, hty, hnm, hd, hfin⟩ := F
  obtain ⟨p0, h1, h2⟩ := z_flatPos hi hj
  refine va_putF X.1 X.2.1 X.2.2.2.2.1 hin ty0 hty hnm X.2.2.2.1 X.K hW.1 hW.2 hS p0 h1 hc k hk (X.w hlk) (fun x hx => by rw [← hdecl]; exact hx) hfin hin2 hdecl hd hn hfit hl hdg (fun H1 locs1 hP hD hS => ?_)
  rw [h2] at hP hD
  exact kk H1 locs1 ⟨hP, hD⟩ hS
/-! arrays -/
theorem zx_lit {n : Nat} : (Int32.ofNat n) = nI n := rfl
theorem zx_add {x y : Int32} {a b : Nat} (hx : x = nI a) (hy : y = nI b) : x + y = nI (a + b) := by rw [hx, hy, nI_add]
theorem zx_mul {x y : Int32} {a b : Nat} (hx : x = nI a) (hy : y = nI b) : x * y = nI (a * b) := by rw [hx, hy]; exact (Int32.ofNat_mul a b).symm
theorem zx_in {x : Int32} {j n : Nat} (hi : x = nI j) (hj : j < n) (hn : n < 2 ^ 31) : vp_in x n := by rw [hi]; exact vp_in_nI hj hn
theorem zx_cl {x : Int32} {j n : Nat} (hi : x = nI j) (hj : j < n) (hn : n < 2 ^ 31) : x.toNatClampNeg = j := by rw [hi]; exact nI_clamp (by omega)
section ARR
variable {a n j : Nat} {x : Int32}
theorem z_iald (X : zX p s m c cc args own nL g) {f : Nat → Int32} (hat : va_at g.1 z_cl (a, .inl (g.2.1 0, n, .inl f)) H) (hi : x = nI j) (hj : j < n) (hn : n < 2 ^ 31) (hdg : decode cc pc = .ok (.iaload, 1))
    (kk : W p l e R s m args below meth c H locs cells slots Q (F0 m (pc + 1) ls (.int (f j) :: rest))) : W p l e R s m args below meth c H locs cells slots Q (F0 m pc ls (.int x :: .ref a :: rest)) := by
  refine va_iald X.1 X.2.1 X.K (va_P.one hat) 0 0 rfl rfl (zx_in hi hj hn) hdg ?_
  rw [zx_cl hi hj hn]; exact kk
theorem z_bald (X : zX p s m c cc args own nL g) {f : Nat → Int32} (hat : va_at g.1 z_cl (a, .inl (g.2.1 1, n, .inl f)) H) (hi : x = nI j) (hj : j < n) (hn : n < 2 ^ 31) (hdg : decode cc pc = .ok (.baload, 1))
    (kk : W p l e R s m args below meth c H locs cells slots Q (F0 m (pc + 1) ls (.int (f j) :: rest))) : W p l e R s m args below meth c H locs cells slots Q (F0 m pc ls (.int x :: .ref a :: rest)) := by
  refine va_bald X.1 X.2.1 X.K (va_P.one hat) 0 1 rfl rfl (zx_in hi hj hn) hdg ?_
  rw [zx_cl hi hj hn]; exact kk
theorem z_zald (X : zX p s m c cc args own nL g) {f : Nat → Int32} (hat : va_at g.1 z_cl (a, .inl (g.2.1 2, n, .inl f)) H) (hi : x = nI j) (hj : j < n) (hn : n < 2 ^ 31) (hdg : decode cc pc = .ok (.baload, 1))
    (kk : W p l e R s m args below meth c H locs cells slots Q (F0 m (pc + 1) ls (.int (f j) :: rest))) : W p l e R s m args below meth c H locs cells slots Q (F0 m pc ls (.int x :: .ref a :: rest)) := by
  refine va_zald X.1 X.2.1 X.K (va_P.one hat) 0 2 rfl rfl (zx_in hi hj hn) hdg ?_
  rw [zx_cl hi hj hn]; exact kk
theorem z_lald (X : zX p s m c cc args own nL g) {f : Nat → Int64} (hat : va_at g.1 z_cl (a, .inl (g.2.1 3, n, .inr (.inl f))) H) (hi : x = nI j) (hj : j < n) (hn : n < 2 ^ 31) (hdg : decode cc pc = .ok (.laload, 1))
    (kk : W p l e R s m args below meth c H locs cells slots Q (F0 m (pc + 1) ls (.long (f j) :: rest))) : W p l e R s m args below meth c H locs cells slots Q (F0 m pc ls (.int x :: .ref a :: rest)) := by
  refine va_lald X.1 X.2.1 X.K (va_P.one hat) 0 3 rfl rfl (zx_in hi hj hn) hdg ?_
  rw [zx_cl hi hj hn]; exact kk
theorem z_aald (X : zX p s m c cc args own nL g) {f : Nat → Option Nat} (hat : va_at g.1 z_cl (a, .inl (g.2.1 4, n, .inr (.inr (.inr (.inr f))))) H) (hi : x = nI j) (hj : j < n) (hn : n < 2 ^ 31) {v : Value} (hv : va_rf (f j) = v) (hdg : decode cc pc = .ok (.aaload, 1))
    (kk : W p l e R s m args below meth c H locs cells slots Q (F0 m (pc + 1) ls (v :: rest))) : W p l e R s m args below meth c H locs cells slots Q (F0 m pc ls (.int x :: .ref a :: rest)) := by
  refine va_aldq X.1 X.2.1 X.K (va_P.one hat) 0 4 rfl rfl (zx_in hi hj hn) hdg ?_
  rw [zx_cl hi hj hn, hv]; exact kk
theorem z_sald (X : zX p s m c cc args own nL g) {f : Nat → Option Nat} (hat : va_at g.1 z_cl (a, .inl (g.2.1 5, n, .inr (.inr (.inr (.inr f))))) H) (hi : x = nI j) (hj : j < n) (hn : n < 2 ^ 31) {v : Value} (hv : va_rf (f j) = v) (hdg : decode cc pc = .ok (.aaload, 1))
    (kk : W p l e R s m args below meth c H locs cells slots Q (F0 m (pc + 1) ls (v :: rest))) : W p l e R s m args below meth c H locs cells slots Q (F0 m pc ls (.int x :: .ref a :: rest)) := by
  refine va_aldq X.1 X.2.1 X.K (va_P.one hat) 0 5 rfl rfl (zx_in hi hj hn) hdg ?_
  rw [zx_cl hi hj hn, hv]; exact kk
theorem z_alen (X : zX p s m c cc args own nL g) {t0 : Nat} {cA : ClassId} {ty : FieldType} {y : (Nat → Int32) ⊕ (Nat → Int64) ⊕ (Nat → UInt32) ⊕ (Nat → UInt64) ⊕ (Nat → Option Nat)} (hat : va_at g.1 z_cl (a, .inl (cA, n, y)) H) (ht : (z_tys g)[t0]? = some (cA, ty)) (hdg : decode cc pc = .ok (.arraylength, 1))
    (kk : W p l e R s m args below meth c H locs cells slots Q (F0 m (pc + 1) ls (.int (nI n) :: rest))) : W p l e R s m args below meth c H locs cells slots Q (F0 m pc ls (.ref a :: rest)) :=
  va_alen X.1 X.2.1 X.K (va_P.one hat) 0 t0 rfl ht rfl hdg kk
theorem z_iast (X : zX p s m c cc args own nL g) (hW : zW g A gs H) (hS : va_S A H0 H locs) (i1 j1 : Nat) {G : va_W} {f : Nat → Int32} (hi1 : gs[i1]? = some G) (hj1 : G[j1]? = some (a, .inl (g.2.1 0, n, .inl f))) {v : Int32} (hi : x = nI j) (hj : j < n) (hn : n < 2 ^ 31) (hdg : decode cc pc = .ok (.iastore, 1))
    (kk : ∀ (H1 : Heap) (locs1 : List Loc), zW g A (gs.set i1 (G.set j1 (a, .inl (g.2.1 0, n, .inl (upd f j v))))) H1 → va_S A H0 H1 locs1 → W p l e R s m args below meth c H1 locs1 cells slots Q (F0 m (pc + 1) ls rest)) : W p l e R s m args below meth c H locs cells slots Q (F0 m pc ls (.int v :: .int x :: .ref a :: rest)) := by
  obtain ⟨p0, h1, h2⟩ := z_flatPos hi1 hj1
  refine va_iast X.1 X.2.1 X.K hW.1 hW.2 hS p0 0 h1 rfl (zx_in hi hj hn) hdg (fun H1 locs1 hP hD hS => ?_)
  rw [zx_cl hi hj hn, h2] at hP hD
  exact kk H1 locs1 ⟨hP, hD⟩ hS
theorem z_zast (X : zX p s m c cc args own nL g) (hW : zW g A gs H) (hS : va_S A H0 H locs) (i1 j1 : Nat) {G : va_W} {f : Nat → Int32} (hi1 : gs[i1]? = some G) (hj1 : G[j1]? = some (a, .inl (g.2.1 2, n, .inl f))) (hi : x = nI j) (hj : j < n) (hn : n < 2 ^ 31) (hdg : decode cc pc = .ok (.bastore, 1))
    (kk : ∀ (H1 : Heap) (locs1 : List Loc), zW g A (gs.set i1 (G.set j1 (a, .inl (g.2.1 2, n, .inl (upd f j 1))))) H1 → va_S A H0 H1 locs1 → W p l e R s m args below meth c H1 locs1 cells slots Q (F0 m (pc + 1) ls rest)) : W p l e R s m args below meth c H locs cells slots Q (F0 m pc ls (.int 1 :: .int x :: .ref a :: rest)) := by
  obtain ⟨p0, h1, h2⟩ := z_flatPos hi1 hj1
  refine va_zast X.1 X.2.1 X.K hW.1 hW.2 hS p0 2 h1 rfl (zx_in hi hj hn) hdg (fun H1 locs1 hP hD hS => ?_)
  rw [zx_cl hi hj hn, h2] at hP hD
  exact kk H1 locs1 ⟨hP, hD⟩ hS
end ARR
end ZB
