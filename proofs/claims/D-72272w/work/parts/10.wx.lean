/-! rows of mine for methods that throw, and for a default method of an interface -/
def qF : Array Value → State → Outcome → State → Prop := va_Qv (fun (_ : Unit) => False) (fun _ _ => False) (fun _ => False)
def xX (E : String) : String → State → State → Prop := vx_X (fun (_ : Unit) => True) (fun E' _ _ => E' = E) (fun _ => False)
/-- a call that throws an E, and changes nothing that was there -/
def xThr (l : Launch) (y : MethodName) (ws : List Cond) (rm : Room) (Pc : Array Value → State → Prop) (E : String) : Prop := vx_Met l y ws rm Pc qF (xX E) 1 6 (fun _ => False)
theorem mT_ {l : Launch} {y : MethodName} {rm : Room} {av : List Value} {D : va_G} {W0 : va_W} {cI cD cL : ClassId} {tR tC sz : Nat} {cc : ByteArray} {maxL : Nat} {ret : Option FieldType} {E : String} (hy : plainName y.cls = true) (hlen : (lg_sl av).length ≤ maxL)
    (body : ∀ (p : Program) (e : Env) (s : State) (m : MethodId) (below : List Frame) (meth : Method) (c : Code) (A : Nat → Prop), p.tables.exec = Jvm.exec → c.code = cc → meth.sig.returnType = ret → c.maxLocals = maxL → s.vm.findClass y.cls = some m.cls → (∀ w ∈ lw_all, w.before av.toArray s = true) → va_K D vwCl (T3 cI cD cL) s → (∀ q : Nat, s.heap.size ≤ q → A q) → xE A tR tC s s.heap → meth.locks = false → meth.name = y.name → sz = s.heap.size → va_P D vwCl W0 s.heap → va_D A W0 → va_S A s.heap s.heap [] → (∀ x ∈ c.exceptionTable.toList, False) → ∀ ls : Array Slot, lv_has ls maxL (lv_args 0 av) →
      W p l e rm s m av.toArray below meth c s.heap [] 0 0 (vx_MQ below qF (xX E) av.toArray s 1 6 (fun _ => False)) (F0 m 0 ls [])) :
    xThr l y (ws_ y cc maxL ret) rm (pX av D W0 cI cD cL tR tC sz) E := by
  refine vx_ofW (cc := cc) (maxL := maxL) (ret := ret) hy rfl ?_
  intro p e s m args below meth c s₁ B hml hout hv
  obtain ⟨rfl, hsz, hP, hK, hD0, hE⟩ := hv
  have hts := atoms_spec (ws := ws_ y cc maxL ret) B.pre
  have hts : ∀ w ∈ lw_all, w.before _ s = true := fun w h => hts w (List.mem_cons_of_mem _ h)
  subst hsz
  have hD := hD0.self (sz := s.heap.size)
  rw [lg_entry_eq]
  exact body p e s m below meth c (va_A W0 s.heap.size) B.exec B.bytes B.returns hml (findClass_of_methodNamed B.named) hts hK (fun q h => Or.inr h) hE B.notSynchronized (name_of_methodNamed B.named B.method).1 rfl hP hD va_S.rf hout _ (lv_entry av hlen)
/-- a contract that never throws, of a method with handlers -/
theorem met_of_vx {l : Launch} {y : MethodName} {ws : List Cond} {rm : Room} {Pc : Array Value → State → Prop} {Qc : Array Value → State → Outcome → State → Prop} {mc ms : Nat} {free : Addr → Prop} (h : vx_Met l y ws rm Pc Qc (fun _ _ _ => False) mc ms free) : Met l y ws rm Pc Qc mc ms free := by
  intro p e ha hc hk s m args below hf happ hP hz
  obtain ⟨t, o, h1, h2, h3, h4⟩ := h p e ha hc hk s m args below hf happ hP hz
  refine ⟨t, o, h1, h2, h3, ?_⟩
  rcases h4 with h4 | ⟨q, _, E, ce, L, h5, _⟩
  · exact h4
  · exact h5.elim
theorem mH_ {l : Launch} {y : MethodName} {rm : Room} {av : List Value} {D : va_G} {W0 : va_W} {cI cD cL : ClassId} {tR tC sz : Nat} {cc : ByteArray} {maxL : Nat} {ret : Option FieldType} {hh : List (Nat × Nat × Nat × Nat)} {Qf : (Nat → Prop) → Array Value → State → Outcome → State → Prop} {mc ms : Nat} (hy : plainName y.cls = true) (hlen : (lg_sl av).length ≤ maxL)
    (body : ∀ (p : Program) (e : Env) (s : State) (m : MethodId) (below : List Frame) (meth : Method) (c : Code) (A : Nat → Prop), p.tables.exec = Jvm.exec → c.code = cc → meth.sig.returnType = ret → c.maxLocals = maxL → s.vm.findClass y.cls = some m.cls → (∀ w ∈ lw_all, w.before av.toArray s = true) → va_K D vwCl (T3 cI cD cL) s → (∀ q : Nat, s.heap.size ≤ q → A q) → xE A tR tC s s.heap → meth.locks = false → meth.name = y.name → sz = s.heap.size → va_P D vwCl W0 s.heap → va_D A W0 → va_S A s.heap s.heap [] → c.exceptionTable.toList = tableOf hh → ∀ ls : Array Slot, lv_has ls maxL (lv_args 0 av) →
      W p l e rm s m av.toArray below meth c s.heap [] 0 0 (MQ below (Qf A) av.toArray s mc ms A) (F0 m 0 ls [])) :
    Met l y (wsW_ y cc maxL ret hh) rm (pX av D W0 cI cD cL tR tC sz) (Qf (va_A W0 sz)) mc ms (va_A W0 sz) := by
  refine met_of_vx (vx_ofWH (cc := cc) (maxL := maxL) (ret := ret) (hh := hh) hy rfl ?_)
  intro p e s m args below meth c s₁ B hml hv
  obtain ⟨rfl, hsz, hP, hK, hD0, hE⟩ := hv
  have hts := atoms_spec (ws := wsW_ y cc maxL ret hh) B.pre
  have hcode := hts _ List.mem_cons_self
  have hts : ∀ w ∈ lw_all, w.before _ s = true := fun w h => hts w (List.mem_cons_of_mem _ h)
  subst hsz
  have hD := hD0.self (sz := s.heap.size)
  rw [lg_entry_eq]
  exact vx_ret (body p e s m below meth c (va_A W0 s.heap.size) B.exec B.bytes B.returns hml (findClass_of_methodNamed B.named) hts hK (fun q h => Or.inr h) hE B.notSynchronized (name_of_methodNamed B.named B.method).1 rfl hP hD va_S.rf (vx_table (x := y) B hcode) _ (lv_entry av hlen))
theorem xTw_on : xTw.all (fun w => w.onTables) = true := by decide +kernel
theorem xhat {own : String} {ic : Nat} {X : String} {names : List String} {args : Array Value} {s : State} (hd : (vx_at0 own ic X names).all (fun w => decide (w ∈ xTw) || (decide (w ∈ lw_tbl) && goodWord w)) = true) (hts : ∀ w ∈ lw_all, w.before args s = true) (hT : xT s) : ∀ w ∈ vx_at0 own ic X names, w.before args s = true := by
  intro w hw
  have h := List.all_eq_true.mp hd w hw
  simp only [Bool.and_eq_true, Bool.or_eq_true, decide_eq_true_eq] at h
  rcases h with g | g
  · exact va_Nw.use (List.all_eq_true.mp xTw_on w g) (hT.1 w g)
  · exact hts w (lw_g g.1 g.2)
abbrev nmsX : List String := ["java/lang/RuntimeException", "java/lang/Exception"]
section XT
variable {p : Program} {l : Launch} {e : Env} {R : Room} {s : State} {m : MethodId} {args : Array Value} {below : List Frame} {meth : Method} {c : Code} {H : Heap} {locs : List Loc} {cells slots : Nat} {Q : State → Prop}
variable {cc : ByteArray} {pc : Nat} {ls : Array Slot} {rest st0 : List Value} {A A1 : Nat → Prop} {D : va_G} {tys : List (ClassId × FieldType)} {ws wc wr w1 : va_W} {a : Nat} {aa : Array Value} {mc ms : Nat}
theorem w_throw0 {tR tC : Nat} (hx : p.tables.exec = Jvm.exec) (hb : c.code = cc) (hfl : l.stackTraces = false) {own cls : String} {ik ic : Nat}
    (hown : s.vm.findClass own = some m.cls) (hts : ∀ w ∈ lw_all, w.before args s = true) (hE : xE A tR tC s s.heap) (hcls : Bundle.fit cls = true) (hnm : nmsX.all (fun n => Bundle.fit n) = true)
    (hk : Cond.classLink own ik cls ∈ lw_all) (hini : Cond.initialized cls ∈ lw_all) (hd : (vx_at0 own ic cls nmsX).all (fun w => decide (w ∈ xTw) || (decide (w ∈ lw_tbl) && goodWord w)) = true)
    (hg : (Cond.classLink own ik cls :: Cond.initialized cls :: vx_at0 own ic cls nmsX).all (fun w => vx_ot w) = true) (hsize : ls.size = c.maxLocals)
    (d0 : decode cc pc = .ok (.new ik, 3)) (d3 : decode cc (pc + 3) = .ok (.dup, 1)) (d4 : decode cc (pc + 4) = .ok (.invokespecial ic, 3)) (d7 : decode cc (pc + 7) = .ok (.athrow, 1))
    (hout : ∀ x ∈ c.exceptionTable.toList, False) (hlocks : meth.locks = false) (hRf : 5 < R.frames) (hRl : (rest.map fun v => v.category).sum + 81 ≤ R.locals) (hRc : 1 ≤ R.cells) (hRs : 6 ≤ R.slots) :
    W p l e R s m args below meth c s.heap [] 0 0 (vx_MQ below qF (xX cls) args s 1 6 (fun _ => False)) (F0 m pc ls rest) := by
  obtain ⟨h1, h2, h3, h4, h5, h6, h7⟩ := hE
  exact vx_throw0 (names := nmsX) (A := A) hx hb hfl hown hcls (fun n hn => List.all_eq_true.mp hnm n hn) (hts _ hk) (hts _ hini) (xhat hd hts h7) (fun w hw => List.all_eq_true.mp hg w hw) h5 h6 va_S.rf hsize d0 d3 d4 d7 (fun x hx => (hout x hx).elim) hRf hRl (by omega) (by omega) hlocks (fun t _ h8 h9 => ⟨(), trivial, rfl, h8, fun q hq _ => h9 q hq⟩) (fun _ h => by cases h) (by omega) (by omega)
/-- a call that throws, not caught here -/
theorem kx_out {E : String} (hr : vx_Run p l e R s m args below meth c s.heap [] cells slots 1 6 (F0 m pc ls st0) rest (qF aa) (xX E) (fun _ => False)) (hS : va_S A s.heap s.heap []) (hout : ∀ x ∈ c.exceptionTable.toList, False) (hlocks : meth.locks = false) (hc : cells = 0) (hs : slots = 0) : W p l e R s m args below meth c s.heap [] cells slots (vx_MQ below qF (xX E) args s 1 6 (fun _ => False)) (F0 m pc ls st0) := by
  subst hc; subst hs
  have hS0 : va_S (fun _ => False) s.heap s.heap [] := va_S.rf
  refine vx_callv hr hS0 (fun q _ h => h) (fun q h => h) (fun q _ h => h) (fun E' ce q9 u t H1 locs1 ht hvm _ hB hz hk hS1 hcell hv hcl => ?_) (fun u t H1 locs1 ht hvm hF => hF.elim)
  subst hB
  exact vx_out (fun x hx => (hout x hx).elim) hlocks hcell hv hcl (fun t' ht' _ => ⟨(), trivial, rfl, by rw [ht']; exact hz, fun q hq _ => by rw [ht']; exact hk q hq (fun z => z)⟩) (fun z hz => hS1.2.2 z hz) (by omega) (by omega)
/-- a call that throws, caught here by the first row -/
theorem kx_catch {E own : String} (hr : vx_Run p l e R s m args below meth c H locs cells slots 1 6 (F0 m pc ls st0) rest (qF aa) (xX E) (fun _ => False)) (hP : va_P D vwCl ws H) (hS : va_S A s.heap H locs) (hown : s.vm.findClass own = some m.cls) (pre : List ExceptionTableEntry) (x : ExceptionTableEntry) (suf : List ExceptionTableEntry) (hsplit : c.exceptionTable.toList = pre ++ x :: suf)
    (hpass : ∀ z ∈ pre, covers z pc = false ∨ (z.catchType ≠ 0 ∧ ∃ nm : String, (Cond.classLink own z.catchType nm).before args s = true ∧ va_Nc E nm s)) (hcov : covers x pc = true) (h0 : x.catchType ≠ 0)
    (hlink : (Cond.classLink own x.catchType E).before args s = true) (hcast : va_Nw (.castable E E) s)
    (kk : ∀ (q : Nat) (H1 : Heap) (locs1 : List Loc), va_P D vwCl ws H1 → va_S A s.heap H1 locs1 → W p l e R s m args below meth c H1 locs1 (cells + 1) (slots + 6) Q (F0 m x.handlerPc ls [.ref q])) : W p l e R s m args below meth c H locs cells slots Q (F0 m pc ls st0) := by
  refine vx_callv hr hS (fun q _ h => h.elim) (fun q h => h.elim) (fun q _ h => h.elim) (fun E' ce q9 u t H1 locs1 ht hvm _ hB hz hk hS1 hcell hv hcl => ?_) (fun u t H1 locs1 ht hvm hF => hF.elim)
  subst hB
  refine vx_catch hown pre x suf hsplit hpass hcov h0 hlink (va_Nw.use rfl hcast) hcell hv hcl (kk q9 H1 locs1 (hP.kept (fun k q hq => hk q.1 ((hP k q hq).lt) (fun z => z))) hS1)
/-- what a call of a default method asks -/
theorem w_runD {x : MethodName} {bytes : ByteArray} {maxL nL n index count : Nat} {ret : Option FieldType} {wsy wsy' : List Cond} {rm : Room} {Pc : Array Value → State → Prop} {Qc : Array Value → State → Outcome → State → Prop} {free : Addr → Prop} {own C : String} {cC : ClassId} {b : Addr} {As : List Value} {g : JFrame}
    (hat : ClassAt s C cC) (S : CallFix p m c cc nL s args lw_all own) (hM : Met l x wsy rm Pc Qc mc ms free) (hws : GoodIn lw_all wsy) (hw : wsy = Cond.code x bytes maxL ret :: wsy') (hrc : rm.cells = mc) (hrs : rm.slots = ms) (hl : (Cond.methodLink own index x).before args s = true) (hD : xDf C x s) (hin : (Cond.instanceMethod x).before args s = true) (hini : (Cond.initialized x.cls).before args s = true)
    (hd : x.cls ≠ "java/lang/invoke/MethodHandle" ∧ x.cls ≠ "java/lang/invoke/VarHandle" ∧ (parseMethodDescriptor x.desc).map (fun d => d.parameters.length) = some n) (hR : rm.frames + 1 ≤ R.frames ∧ 8 + (maxL + 11) + rm.locals ≤ R.locals) (hp : PreV s H C b Pc As)
    (hg : g.method = m) (hn : As.length = n) (hsize : g.locals.size = nL) (hstack : g.stack = As.reverse ++ .ref b :: rest) (hW : 2 * g.monitorRoom + (rest.map fun v => v.category).sum ≤ 8) (hdg : decode cc g.pc = .ok (.invokeinterface index count, 5)) (hf : cells + mc ≤ R.cells ∧ slots + ms ≤ R.slots) :
    va_Run5 p l e R s m args below meth c H locs cells slots mc ms g rest (Qc (Value.ref b :: As).toArray) (free) := by
  obtain ⟨hx, hb, hml, ho, hts⟩ := S
  have hcw : Cond.code x bytes maxL ret ∈ wsy := by rw [hw]; exact List.mem_cons_self
  have hK : Back l R p e below s args x 5 8 (PreOf R mc ms Pc) (PostOf Qc mc ms free) := back_of (bytes := bytes) (maxL := maxL) (ret := ret) hM hp.1 hrc hrs hR.1 hR.2 (pay_in hts hws) hcw (fun a' U hW => word_at hW (Or.inl (by first | rfl | simp [Cond.onTables, Cond.keeps, Cond.steady])) hini)
  obtain ⟨-, ⟨cellB, hcB, hoB, hclB⟩, hPc⟩ := hp
  obtain ⟨hfc, kB, hkB, -⟩ := hat
  cases hfc.symm.trans hclB
  obtain ⟨e1, e2, e3, e4, e5⟩ := hD
  intro T hT X
  have e4' : (Cond.landsInDefault C x x).before args s = true := e4
  obtain ⟨v, vm₁, ⟨U', l2, c2, s2⟩, hW₁, X', ⟨g', mk, t, L, e1, e2, hq, h1, hL, h2, h3⟩, st⟩ := interfaceBackD (p := p) X hx (C := C) ho hl (va_any rfl e1) (va_any rfl e2) e4' hin (va_any rfl e3) (va_any rfl e5) ⟨hd.1, hd.2.1⟩ hK hclB hkB ⟨cellB, by rw [hT]; exact hcB, rfl, hoB⟩ hg (hsize.trans hml.symm) (s₀ := T.setTop g) (Steps.refl _) (argsL := As) (rest := rest) (fun sig h => by
      have h2 := hd.2.2
      rw [h] at h2
      exact hn.trans (Option.some.inj h2).symm) hstack hW (by rw [hb]; exact hdg)
    (fun vm₁ hW₁ => ⟨hf.1, hf.2, hPc (T.setVm vm₁) hT hW₁⟩)
  dsimp only [Pt.U, Pt.locs, Pt.cells, Pt.slots] at X' e1 e2 h1 h2 h3 st
  subst h1; subst h2; subst h3
  exact ⟨v, (T.setVm vm₁).calling g' mk (Value.ref b :: As).toArray, t, U', L, hT, X', hL, e1, e2, hq, fun tg h => st.trans h⟩
end XT
