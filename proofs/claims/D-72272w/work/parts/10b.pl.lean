/-- the body of Side$1.place, Side$2.place, walked in place: no word of the tables says that these two classes are initialised, so no contract can be called -/
theorem w_placeBack {l : Launch} {R : Room} {p : Program} {e : Env} {below : List Frame} {s : State} {sargs : Array Value} {y : MethodName} {bytes : ByteArray} {i1 i2 : Fin 4} {z1 z2 : Int32} {bb : Nat} {u v : Int32}
    (hexec : p.tables.exec = Jvm.exec) (hy : plainName y.cls = true)
    (d0 : decode bytes 0 = .ok (.bipush 6, 2)) (d2 : decode bytes 2 = .ok (.iload_n i1, 1)) (d3 : decode bytes 3 = .ok (.imul, 1)) (d4 : decode bytes 4 = .ok (.iload_n i2, 1)) (d5 : decode bytes 5 = .ok (.iadd, 1)) (d6 : decode bytes 6 = .ok (.ireturn, 1))
    (hl1 : ((lg_sl [.ref bb, .int u, .int v] ++ List.replicate (3 - (lg_sl [.ref bb, .int u, .int v]).length) Slot.unset).toArray)[(i1 : Nat)]? = some (.val (.int z1)))
    (hl2 : ((lg_sl [.ref bb, .int u, .int v] ++ List.replicate (3 - (lg_sl [.ref bb, .int u, .int v]).length) Slot.unset).toArray)[(i2 : Nat)]? = some (.val (.int z2)))
    (hcode : ∀ (a' : Array Value) (U : State), s.WarmedH U.vm → (Cond.code y bytes 3 (some .int)).before a' U = true) (hR : 1 ≤ R.frames ∧ 22 ≤ R.locals) :
    Back l R p e below s sargs y 3 8 (fun _ a => a = ([.ref bb, .int u, .int v] : List Value).toArray) (fun A _ r B => r = some (.int (6 * z1 + z2)) ∧ B = A) := by
  intro m meth c A g ig mk a X hg hsize hdg hW hn hp
  obtain ⟨methY, cY, hmY, hcY, hbY, hlY, hretY, hlocksY, -, -⟩ := Cond.code_spec hn (hcode a A.U X.warmed)
  subst hg
  subst hp
  refine ⟨some (.int (6 * z1 + z2)), A, X, ⟨rfl, rfl⟩, ?_⟩
  have hplain : A.U.plainMethod mk := State.plainMethod.of_name (fun k hk => by
    obtain ⟨k', hk', hnm⟩ := className_of_methodNamed hn
    cases hk.symm.trans hk'
    rw [hnm]; exact hy)
  have hfull := X.notFull (g := g) hsize (vars := cY.maxLocals) hR.1 (by rw [hlY]; omega)
  rw [doInvoke_enter X.here.top [] hmY hcY hlocksY hfull]
  have hAt := X.here.enter (g := g) ([.ref bb, .int u, .int v] : List Value).toArray hmY hcY hplain
  have hf := frames_entered (g := g) X.here.top (.java (entryFrame mk ([.ref bb, .int u, .int v] : List Value).toArray cY.maxLocals))
  have hcg : ((A.U.setTop g).pushFrame (.java (entryFrame mk ([.ref bb, .int u, .int v] : List Value).toArray cY.maxLocals))).code? g.method = some c := by
    have := X.here.code
    rw [State.code?_eq] at this ⊢
    simpa [State.pushFrame, State.setFrames] using this
  have hm' : ((A.U.setTop g).pushFrame (.java (entryFrame mk ([.ref bb, .int u, .int v] : List Value).toArray cY.maxLocals))).vm.method? mk = some methY := by
    simpa [State.pushFrame, State.setFrames] using hmY
  have hret : ∀ (f : JFrame) (acts : List Action), f.method = mk → f.locked = none → f.entered = [] → (doReturn e (((A.U.setTop g).pushFrame (.java (entryFrame mk ([.ref bb, .int u, .int v] : List Value).toArray cY.maxLocals))).setTop f) acts (some (.int (6 * z1 + z2)))).1 = A.U.setTop { g with pc := g.pc + 3, stack := [.int (6 * z1 + z2)] ++ g.stack } := by
    intro f acts q1 q2 q3
    rw [doReturn_leave (g := g) (meth := methY) (cg := c) (ig := ig) (len := 3) acts hf (by rw [q1]; exact hm') hlocksY q2 q3 hcg hdg, setFrames_entered X.here.top, State.setTop_setTop]
    rfl
  generalize hUe : (A.U.setTop g).pushFrame (.java (entryFrame mk ([.ref bb, .int u, .int v] : List Value).toArray cY.maxLocals)) = U at hAt hret hm' ⊢
  rw [hlY, lg_entry_eq]
  generalize (lg_sl [.ref bb, .int u, .int v] ++ List.replicate (3 - (lg_sl [.ref bb, .int u, .int v]).length) Slot.unset).toArray = ls at hl1 hl2 ⊢
  jvm_step hAt [hAt.top, hexec, hbY, d0]
  jvm_step hAt [hAt.top, hexec, hbY, d2, hl1]
  jvm_step hAt [hAt.top, hexec, hbY, d3]
  jvm_step hAt [hAt.top, hexec, hbY, d4, hl2]
  jvm_step hAt [hAt.top, hexec, hbY, d5]
  jvm_step hAt [hAt.top, hexec, hbY, d6, hm', hretY, narrow]
  (try refine ⟨rfl, ?_⟩); (try refine ⟨rfl, ?_⟩)
  first | (intro acts; rw [hret _ acts rfl rfl rfl]) | rw [hret _ _ rfl rfl rfl]
  exact Steps.refl _
/-- 'this.place(u, v)' on a constant of the enum -/
theorem w_place {l : Launch} {R : Room} {p : Program} {e : Env} {below : List Frame} {s : State} {args : Array Value} {m : MethodId} {meth : Method} {c : Code} {H : Heap} {locs : List Loc} {cells slots : Nat} {Q : State → Prop} {cc bytes : ByteArray} {pc nL index : Nat} {ls : Array Slot} {rest : List Value} {own C owner : String} {x y : MethodName} {z u v : Int32} {b : Nat}
    (S : CallFix p m c cc nL s args lw_all own)
    (hK : Back l R p e below s args y 3 8 (fun _ a => a = ([.ref b, .int u, .int v] : List Value).toArray) (fun A _ r B => r = some (.int z) ∧ B = A))
    (hl : Cond.methodLink own index x ∈ lw_all) (hsm : Cond.sameMethod x.cls owner x.name x.desc ∈ lw_all) (hdc : va_Nw (.declares ⟨owner, x.name, x.desc⟩) s) (hs : Cond.selects C x y ∈ lw_all) (hi : Cond.instanceMethod y ∈ lw_all) (hc : Cond.code y bytes 3 (some .int) ∈ lw_all)
    (hd : owner ≠ "java/lang/invoke/MethodHandle" ∧ owner ≠ "java/lang/invoke/VarHandle" ∧ (parseMethodDescriptor x.desc).map (fun d => d.parameters.length) = some 2)
    (hr : ∃ cell : Cell, H[b]? = some cell ∧ cell.vm.isStatics = false ∧ s.vm.findClass C = some cell.cls) (hsz : ls.size = nL)
    (hW : 2 * (F0 m pc ls rest).monitorRoom + (rest.map fun v => v.category).sum ≤ 8) (hdg : decode cc pc = .ok (.invokevirtual index, 3))
    (kk : W p l e R s m args below meth c H locs cells slots Q (F0 m (pc + 3) ls (.int z :: rest))) : W p l e R s m args below meth c H locs cells slots Q (F0 m pc ls (.int v :: .int u :: .ref b :: rest)) := by
  obtain ⟨hx, hb, hml, ho, hts⟩ := S
  obtain ⟨cellB, hcB, hoB, hclB⟩ := hr
  intro T hT X
  obtain ⟨r, vm₁, B, hW₁, X', ⟨h1, h2⟩, st⟩ := va_callVU X hx (C := C) (owner := owner) (bytes := bytes) (maxL := 3) (ret := some .int) ho (hts _ hl) (hts _ hsm) (va_Decl.abs hdc) ⟨hd.1, hd.2.1⟩ (hts _ hs) (hts _ hi) (hts _ hc) hK (by rw [hT]; exact hcB) hoB hclB (g := F0 m pc ls (.int v :: .int u :: .ref b :: rest)) rfl (hsz.trans hml.symm) (argsL := [.int u, .int v]) (rest := rest) (fun sig h => by
      have h2 := hd.2.2
      rw [h] at h2
      exact (Option.some.inj h2).symm) rfl hW (by rw [hb]; exact hdg) (fun vm₁ hW₁ => rfl)
  subst h1; subst h2
  obtain ⟨t, a1, b1⟩ := kk (T.setVm vm₁) hT X'
  exact ⟨t, st t a1, b1⟩
/-- a word of the list, in every state to come -/
theorem w_word {w : Cond} {args a' : Array Value} {s U : State} (hts : ∀ w ∈ lw_all, w.before args s = true) (h : w ∈ lw_all) (hW : s.WarmedH U.vm) : w.before a' U = true := word_at hW (good_of_word (List.mem_filter.mp h).2) (hts w h)
theorem pl_nat (a b : Nat) : (6 : Int32) * nI a + nI b = nI (6 * a + b) := by
  rw [← nI_add, ← pk_mul]; rfl
theorem w_plR {l : Launch} {R : Room} {p : Program} {e : Env} {below : List Frame} {s : State} {sargs : Array Value} {bb : Nat} (u v : Nat) (hexec : p.tables.exec = Jvm.exec) (hts : ∀ w ∈ lw_all, w.before sargs s = true) (hR : 1 ≤ R.frames ∧ 22 ≤ R.locals) :
    Back l R p e below s sargs yX9_place 3 8 (fun _ a => a = ([.ref bb, .int (nI u), .int (nI v)] : List Value).toArray) (fun A _ r B => r = some (.int (nI (6 * u + v))) ∧ B = A) := by
  rw [← pl_nat]
  exact w_placeBack (bytes := cX9_place) (z1 := nI u) (z2 := nI v) hexec (by decide +kernel) dX9_place_0 dX9_place_2 dX9_place_3 dX9_place_4 dX9_place_5 dX9_place_6 rfl rfl (fun a' U hW => w_word hts q207 hW) hR
theorem w_plC {l : Launch} {R : Room} {p : Program} {e : Env} {below : List Frame} {s : State} {sargs : Array Value} {bb : Nat} (u v : Nat) (hexec : p.tables.exec = Jvm.exec) (hts : ∀ w ∈ lw_all, w.before sargs s = true) (hR : 1 ≤ R.frames ∧ 22 ≤ R.locals) :
    Back l R p e below s sargs yX10_place 3 8 (fun _ a => a = ([.ref bb, .int (nI u), .int (nI v)] : List Value).toArray) (fun A _ r B => r = some (.int (nI (6 * v + u))) ∧ B = A) := by
  rw [← pl_nat]
  exact w_placeBack (bytes := cX10_place) (z1 := nI v) (z2 := nI u) hexec (by decide +kernel) dX10_place_0 dX10_place_2 dX10_place_3 dX10_place_4 dX10_place_5 dX10_place_6 rfl rfl (fun a' U hW => w_word hts q210 hW) hR
theorem lw_F {own : String} {idx : Nat} {C : String} {x y : MethodName} {b : ByteArray} {L : Nat} {r : Option FieldType} (h1 : Cond.methodLink own idx x ∈ lw_all) (h2 : Cond.selects C x y ∈ lw_all) (h3 : Cond.instanceMethod y ∈ lw_all) (h4 : Cond.initialized y.cls ∈ lw_all) (h5 : Cond.code y b L r ∈ lw_all) : GoodIn lw_all (va_wsF own idx C x y (ws_ y b L r)) := by
  refine lw_app ?_ (lw_meth h5)
  intro w hw
  simp only [List.mem_cons, List.not_mem_nil, or_false] at hw
  rcases hw with e | e | e | e
  · rw [e]; exact h1
  · rw [e]; exact h2
  · rw [e]; exact h3
  · rw [e]; exact h4
theorem lw_U {own : String} {idx : Nat} {C owner : String} {x y : MethodName} {b : ByteArray} {L : Nat} {r : Option FieldType} (h1 : Cond.methodLink own idx x ∈ lw_all) (h2 : Cond.sameMethod x.cls owner x.name x.desc ∈ lw_all) (h3 : Cond.selects C x y ∈ lw_all) (h4 : Cond.instanceMethod y ∈ lw_all) (h5 : Cond.initialized y.cls ∈ lw_all) (h6 : Cond.code y b L r ∈ lw_all) : GoodIn lw_all (va_wsU own idx C owner x y (ws_ y b L r)) := by
  refine lw_app ?_ (lw_meth h6)
  intro w hw
  simp only [List.mem_cons, List.not_mem_nil, or_false] at hw
  rcases hw with e | e | e | e | e
  · rw [e]; exact h1
  · rw [e]; exact h2
  · rw [e]; exact h3
  · rw [e]; exact h4
  · rw [e]; exact h5
