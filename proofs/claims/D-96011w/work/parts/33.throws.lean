/-! METHODS THAT THROW OR CATCH, over lists of blocks -/
set_option maxRecDepth 100000
def bXC {S : Type} (D : va_G) (sz : Nat) (Bs : List va_W) (ok : String → Nat → S → Prop) (w1 : S → List va_W) : String → Addr → State → State → Prop := fun E q st t => ∃ u : S, ok E q u ∧ bPost D (bA Bs sz) (w1 u) t ∧ va_F (bA Bs sz) st t
/-- a method's contract: it returns, or it throws -/
def bxMet {S SX : Type} (l : Launch) (y : MethodName) (ws : List Cond) (rm : Room) (D : va_G) (g : Nat → ClassId) (sz : Nat) (av : List Value) (Bs : List va_W) (ok : S → Prop) (rv : S → Option Value) (w1 : S → List va_W) (okX : String → Nat → SX → Prop) (wX : SX → List va_W) : Prop :=
  vx_Met l y ws rm (va_Pc av (bPre D g sz Bs)) (bQ D sz Bs ok rv w1) (bXC D sz Bs okX wX) rm.cells rm.slots (bA Bs sz)
def bEX {S SX : Type} (below : List Frame) (args : Array Value) (s : State) (rm : Room) (D : va_G) (A : Nat → Prop) (Bs : List va_W) (ok : S → Prop) (rv : S → Option Value) (w1 : S → List va_W) (okX : String → Nat → SX → Prop) (wX : SX → List va_W) (Q : State → Prop) : Prop :=
  Q = vx_MQ below (bQ D s.heap.size Bs ok rv w1) (bXC D s.heap.size Bs okX wX) args s rm.cells rm.slots (bA Bs s.heap.size) ∧ A = bA Bs s.heap.size
section XRW
variable {p : Program} {l : Launch} {e : Env} {R : Room} {s : State} {m : MethodId} {args : Array Value} {below : List Frame} {meth : Method} {c : Code} {H : Heap} {locs : List Loc} {cells slots : Nat} {Q : State → Prop}
variable {cc : ByteArray} {pc : Nat} {ls : Array Slot} {rest : List Value} {D : va_G} {g : Nat → ClassId} {A : Nat → Prop} {a : Nat} {Bs Bs' : List va_W} {w w' : va_W}
/-- a return of such a method -/
theorem b_toQ {S SX : Type} {rm : Room} {ok : S → Prop} {rv : S → Option Value} {w1 : S → List va_W} {okX : String → Nat → SX → Prop} {wX : SX → List va_W} {B0 : List va_W} {fr : JFrame} (hE : bEX below args s rm D A B0 ok rv w1 okX wX Q) (k : ∀ Q' : State → Prop, bE below args s rm D A B0 ok rv w1 Q' → W p l e R s m args below meth c H locs cells slots Q' fr) : W p l e R s m args below meth c H locs cells slots Q fr := by
  obtain ⟨rfl, hA⟩ := hE
  exact vx_ret (k _ ⟨rfl, hA⟩)
/-- thrown, and no handler here takes it -/
theorem b_outX {S SX : Type} {rm : Room} {ok : S → Prop} {rv : S → Option Value} {w1 : S → List va_W} {okX : String → Nat → SX → Prop} {wX : SX → List va_W} {B0 : List va_W} {E : String} {ce : Cell} {q : Nat} (hE : bEX below args s rm D A B0 ok rv w1 okX wX Q) (hlk : meth.locks = false) (hno : ∀ x ∈ c.exceptionTable.toList, False) (hW : bW D g A s H locs Bs') (u : SX) (hw : Bs' = wX u) (hcell : H[q]? = some ce) (hv : ce.vm = .none) (hcl : s.vm.findClass E = some ce.cls) (hok : okX E q u) (hc : cells ≤ rm.cells) (hs : slots ≤ rm.slots) : vx_W p l e R s m args below meth c H locs cells slots Q (F0 m pc ls rest) q := by
  obtain ⟨rfl, rfl⟩ := hE
  subst hw
  obtain ⟨h1, h2, h3, h4, h5⟩ := hW
  exact vx_out (fun x hx => (hno x hx).elim) hlk hcell hv hcl (fun t ht _ => ⟨u, hok, by rw [bPost, ht]; exact ⟨h2, h3⟩, h4.F ht⟩) h4.2.2 hc hs
theorem b_metX {S SX : Type} {y : MethodName} {rm : Room} {maxL : Nat} {ret : Option FieldType} {sz : Nat} {av : List Value} {Bs : List va_W} {ok : S → Prop} {rv : S → Option Value} {w1 : S → List va_W} {okX : String → Nat → SX → Prop} {wX : SX → List va_W} (hy : plainName y.cls = true) (hav : (lg_sl av).length ≤ maxL)
    (body : ∀ (p : Program) (e : Env) (s : State) (m : MethodId) (args : Array Value) (below : List Frame) (meth : Method) (c : Code) (A : Nat → Prop) (Q : State → Prop) (ls : Array Slot), p.tables.exec = Jvm.exec → c.code = cc → c.maxLocals = maxL → meth.sig.returnType = ret → meth.locks = false → s.vm.findClass y.cls = some m.cls → meth.name = y.name → (∀ w ∈ lw_all, w.before args s = true) → (∀ x ∈ c.exceptionTable.toList, False) → bEX below args s rm D A Bs ok rv w1 okX wX Q → lv_has ls maxL (lv_args 0 av) → bW D g A s s.heap [] Bs → W p l e rm s m args below meth c s.heap [] 0 0 Q (F0 m 0 ls [])) :
    bxMet l y (ws_ y cc maxL ret) rm D g sz av Bs ok rv w1 okX wX := by
  refine vx_ofW (cc := cc) (maxL := maxL) (ret := ret) hy rfl ?_
  intro p e s m args below meth c s₁ B hml hno hv
  obtain ⟨rfl, hsz, hP, hK, hD0, hX⟩ := hv
  subst hsz
  have hts := atoms_spec (ws := ws_ y cc maxL ret) B.pre
  have hl := lv_entry av hav
  have hA : ∀ q : Nat, s.heap.size ≤ q → bA Bs s.heap.size q := fun q h => Or.inr h
  have k := body p e s m av.toArray below meth c _ _ ((lg_sl av ++ List.replicate (maxL - (lg_sl av).length) Slot.unset).toArray) B.exec B.bytes hml B.returns B.notSynchronized (findClass_of_methodNamed B.named) (name_of_methodNamed B.named B.method).1 (fun w h => hts w (List.mem_cons_of_mem _ h)) hno ⟨rfl, rfl⟩ hl ⟨hK, hP, hD0.self, va_S.rf, hA, hX⟩
  rw [lg_entry_eq]
  exact k
theorem b_metH {S SX : Type} {y : MethodName} {rm : Room} {maxL : Nat} {ret : Option FieldType} {hh : List (Nat × Nat × Nat × Nat)} {sz : Nat} {av : List Value} {Bs : List va_W} {ok : S → Prop} {rv : S → Option Value} {w1 : S → List va_W} {okX : String → Nat → SX → Prop} {wX : SX → List va_W} (hy : plainName y.cls = true) (hav : (lg_sl av).length ≤ maxL)
    (body : ∀ (p : Program) (e : Env) (s : State) (m : MethodId) (args : Array Value) (below : List Frame) (meth : Method) (c : Code) (A : Nat → Prop) (Q : State → Prop) (ls : Array Slot), p.tables.exec = Jvm.exec → c.code = cc → c.maxLocals = maxL → meth.sig.returnType = ret → meth.locks = false → s.vm.findClass y.cls = some m.cls → meth.name = y.name → (∀ w ∈ lw_all, w.before args s = true) → c.exceptionTable.toList = tableOf hh → bEX below args s rm D A Bs ok rv w1 okX wX Q → lv_has ls maxL (lv_args 0 av) → bW D g A s s.heap [] Bs → W p l e rm s m args below meth c s.heap [] 0 0 Q (F0 m 0 ls [])) :
    bxMet l y (wsW_ y cc maxL ret hh) rm D g sz av Bs ok rv w1 okX wX := by
  refine vx_ofWH (cc := cc) (maxL := maxL) (ret := ret) (hh := hh) hy rfl ?_
  intro p e s m args below meth c s₁ B hml hv
  obtain ⟨rfl, hsz, hP, hK, hD0, hX⟩ := hv
  subst hsz
  have hts := atoms_spec (ws := wsW_ y cc maxL ret hh) B.pre
  have htab := vx_table (x := y) B (hts _ List.mem_cons_self)
  have hl := lv_entry av hav
  have hA : ∀ q : Nat, s.heap.size ≤ q → bA Bs s.heap.size q := fun q h => Or.inr h
  have k := body p e s m av.toArray below meth c _ _ ((lg_sl av ++ List.replicate (maxL - (lg_sl av).length) Slot.unset).toArray) B.exec B.bytes hml B.returns B.notSynchronized (findClass_of_methodNamed B.named) (name_of_methodNamed B.named B.method).1 (fun w h => hts w (List.mem_cons_of_mem _ h)) htab ⟨rfl, rfl⟩ hl ⟨hK, hP, hD0.self, va_S.rf, hA, hX⟩
  rw [lg_entry_eq]
  exact k
/-- a call of a method that may throw -/
theorem b_callX {S SX : Type} {av : Array Value} {st0 : List Value} {mc ms : Nat} {wc wr : List va_W} {ok : S → Prop} {rv : S → Option Value} {w1 : S → List va_W} {okX : String → Nat → SX → Prop} {wX : SX → List va_W} (hr : vx_Run p l e R s m args below meth c H locs cells slots mc ms (F0 m pc ls st0) rest (bQ D H.size wc ok rv w1 av) (bXC D H.size wc okX wX) (bA wc H.size)) (hW : bW D g A s H locs Bs) (hp : Bs.Perm (wc ++ wr))
    (kx : ∀ (E : String) (q : Nat) (ce : Cell) (u : SX), okX E q u → ∀ (H : Heap) (locs : List Loc), bW D g A s H locs (wX u ++ wr) → H[q]? = some ce → ce.vm = .none → s.vm.findClass E = some ce.cls → vx_W p l e R s m args below meth c H locs (cells + mc) (slots + ms) Q (F0 m pc ls rest) q)
    (kk : ∀ u : S, ok u → ∀ (H : Heap) (locs : List Loc), bW D g A s H locs (w1 u ++ wr) → W p l e R s m args below meth c H locs (cells + mc) (slots + ms) Q (F0 m (pc + 3) ls ((rv u).toList ++ rest))) : W p l e R s m args below meth c H locs cells slots Q (F0 m pc ls st0) := by
  intro T hT X
  rcases hr T hT X with ⟨v, st₀, t, T', L, h0, X', hL, e1, e2, ⟨⟨u, hv, hok, hb⟩, hF⟩, st⟩ | ⟨q, st₀, t, T', L, E, ce, h0, X', hL, e1, e2, ⟨u, hok, hb, hF⟩, hce, hcv, hcl, st⟩
  · cases hv
    obtain ⟨t2, a1, b1⟩ := kk u hok T'.heap (locs ++ L) (b_join hW hp h0 e1 hL hb hF) T' rfl X'
    exact ⟨t2, st t2 a1, b1⟩
  · obtain ⟨t2, a1, b1⟩ := kx E q ce u hok T'.heap (locs ++ L) (b_join hW hp h0 e1 hL hb hF) (by rw [e1]; exact hce) hcv hcl T' rfl X'
    exact ⟨t2, st.trans a1, b1⟩
/-- .. by its class: this class is thrown and no other -/
theorem b_xW {k n : Nat} {fr : JFrame} {q : Nat} (k1 : cells = k) (k2 : slots = n) (kk : vx_W p l e R s m args below meth c H locs k n Q fr q) : vx_W p l e R s m args below meth c H locs cells slots Q fr q := by
  subst k1; subst k2; exact kk
/-- an object as what is thrown -/
theorem b_xcell {C : String} {T : u_T} {N : Nat} (hW : bW D g A s H locs Bs) {pp q ci : Nat} (hp : Bs[pp]? = some w) {fs : List Value} (hq : w[q]? = some (a, .inr (ci, fs))) (hc : CL[ci]? = some (C, T, N)) : ∃ ce : Cell, H[a]? = some ce ∧ ce.vm = .none ∧ s.vm.findClass C = some ce.cls := by
  obtain ⟨k, hk, -⟩ := b_loc Bs pp q w _ hp hq
  obtain ⟨q', h1, cell, g1, g2, g3, -⟩ := hW.2.1 k _ hk
  have e1 : q' = (C, T, N) := Option.some.inj (h1.symm.trans hc)
  subst e1
  exact ⟨cell, g1, g3, by rw [g2]; exact (hW.1.1 ci _ hc).2.1⟩
theorem b_castC (hX : XW g A s) (i : Nat) {C T : String} (h : xwC[i]? = some (C, T)) : (Cond.castable C T).before args s = true := va_Nw.use (A := args) rfl (hX.2.2.1 (C, T) (List.mem_of_getElem? h))
theorem b_castN (hX : XW g A s) (i : Nat) {C T : String} (h : xwN[i]? = some (C, T)) : va_Nc C T s := hX.2.2.2.1 (C, T) (List.mem_of_getElem? h)
/-- the world behind a throw of the machine's own -/
theorem b_new2 {H1 : Heap} (hW : bW D g A s H locs Bs) (h1 : ∀ q : Nat, q < H.size → H1[q]? = H[q]?) (h2 : va_S A s.heap H1 locs) : bW D g A s H1 locs Bs :=
  ⟨hW.1, b_Pmem.mpr fun q hq => (b_Pmem.mp hW.2.1 q hq).kept (h1 q.1 (b_Pmem.mp hW.2.1 q hq).lt), hW.2.2.1, h2, hW.2.2.2.2.1, hW.2.2.2.2.2⟩
end XRW
/-! what the machine throws by itself: the words that it asks -/
theorem xw_dec {g : Nat → ClassId} {A : Nat → Prop} {s : State} {args : Array Value} (hX : XW g A s) (i : Nat) {y : MethodName} (h : xwE[i]? = some y) : (Cond.declares y).before args s = true := va_Nw.use (A := args) rfl (hX.2.2.2.2.2.2.2.2.1 y (List.mem_of_getElem? h))
theorem xh_A {g : Nat → ClassId} {A : Nat → Prop} {s : State} {args : Array Value} (hts : ∀ w ∈ lw_all, w.before args s = true) (hX : XW g A s) : ∀ w ∈ vx_atM "java/lang/ArrayIndexOutOfBoundsException" ["java/lang/IndexOutOfBoundsException", "java/lang/RuntimeException", "java/lang/Exception"], w.before args s = true := by
  have e2 : (vx_atM "java/lang/ArrayIndexOutOfBoundsException" ["java/lang/IndexOutOfBoundsException", "java/lang/RuntimeException", "java/lang/Exception"]).filter (fun w => !goodWord w) = [.declares ⟨"java/lang/IndexOutOfBoundsException", "<init>", "(Ljava/lang/String;)V"⟩, .declares ⟨"java/lang/RuntimeException", "<init>", "(Ljava/lang/String;)V"⟩, .declares ⟨"java/lang/Exception", "<init>", "(Ljava/lang/String;)V"⟩, .declares ⟨"java/lang/Throwable", "<init>", "(Ljava/lang/String;)V"⟩, .castable "java/lang/ArrayIndexOutOfBoundsException" "java/lang/ArrayIndexOutOfBoundsException"] := by decide +kernel
  refine vx_hat (B := [.declares ⟨"java/lang/IndexOutOfBoundsException", "<init>", "(Ljava/lang/String;)V"⟩, .declares ⟨"java/lang/RuntimeException", "<init>", "(Ljava/lang/String;)V"⟩, .declares ⟨"java/lang/Exception", "<init>", "(Ljava/lang/String;)V"⟩, .declares ⟨"java/lang/Throwable", "<init>", "(Ljava/lang/String;)V"⟩, .castable "java/lang/ArrayIndexOutOfBoundsException" "java/lang/ArrayIndexOutOfBoundsException"]) (fun w h => hts w (lw_in _ [80, 332, 272, 294, 297, 299, 333, 334, 116, 117, 266, 271, 295, 302, 326, 303, 327, 304, 328, 267, 269, 329, 264, 265, 301, 329, 364, 365, 366, 367, 367, 368, 369, 258, 258, 259, 260, 261, 261, 262, 263, 264, 84, 335, 336, 337, 339, 338, 340, 86, 363, 380, 276, 372, 373, 375, 371, 300, 330, 370] (by decide +kernel) (by decide +kernel) w h)) (fun w h => by rw [e2] at h; exact h) ?_
  exact (vx_c (xw_dec hX 4 rfl) (vx_c (xw_dec hX 1 rfl) (vx_c (xw_dec hX 2 rfl) (vx_c (xw_dec hX 3 rfl) (vx_c (b_castC hX 1 rfl) vx_n)))))
theorem xg_A : ∀ w ∈ vx_atM "java/lang/ArrayIndexOutOfBoundsException" ["java/lang/IndexOutOfBoundsException", "java/lang/RuntimeException", "java/lang/Exception"], vx_ot w = true := by decide +kernel
/-- the machine throws ArrayIndexOutOfBoundsException -/
theorem b_thA {p : Program} {l : Launch} {e : Env} {R : Room} {s : State} {m : MethodId} {args : Array Value} {below : List Frame} {meth : Method} {c : Code} {H : Heap} {locs : List Loc} {cells slots : Nat} {Q : State → Prop} {pc : Nat} {ls : Array Slot} {rest : List Value} {D : va_G} {g : Nat → ClassId} {A : Nat → Prop} {Bs : List va_W} {i : Int32} {n : Nat} {tx : String} (hx : p.tables.exec = Jvm.exec) (hst : l.stackTraces = false) (hts : ∀ w ∈ lw_all, w.before args s = true) (hW : bW D g A s H locs Bs) (hsize : ls.size = c.maxLocals) (hlk : meth.locks = false) (hn : n < 2147483648) (htx : tx = (toString "Index " ++ toString i ++ toString " out of bounds for length " ++ toString n : String)) (hR : 8 < R.frames ∧ 10300 ≤ R.locals) (hrest : (rest.map fun v => v.category).sum ≤ 60) (hcs : cells + 3 ≤ R.cells ∧ slots + 222 ≤ R.slots)
    (k : ∀ (H : Heap) (q : Nat) (ce : Cell), bW D g A s H locs Bs → H[q]? = some ce → ce.vm = .none → s.vm.findClass "java/lang/ArrayIndexOutOfBoundsException" = some ce.cls → vx_W p l e R s m args below meth c H locs (cells + 3) (slots + 222) Q (F0 m pc ls rest) q) : vx_Note p l e R s m args below meth c H locs cells slots Q (F0 m pc ls rest) "java/lang/ArrayIndexOutOfBoundsException" tx := by
  subst htx
  exact vx_vm hx hst (nb := 212) (A := A) (names := ["java/lang/IndexOutOfBoundsException", "java/lang/RuntimeException", "java/lang/Exception"]) (by decide +kernel) (by decide +kernel) (by decide) (by decide) (xh_A hts hW.2.2.2.2.2) xg_A (b_eK hW).2.2.2.1 (b_eK hW).2.2.2.2.1 hW.2.2.2.1 hsize (index_text_modelled i n) (index_text_bytes i hn) (by decide) (by show _ + 4 < _; have := hR.1; simp; omega) (by have := hR.2; omega) (by simp) hcs.1 hcs.2 hlk (fun H1 q ce h1 h2 h3 h4 h5 h6 => k H1 q ce (b_new2 hW h2 h3) h4 h5 h6)
theorem xh_N {g : Nat → ClassId} {A : Nat → Prop} {s : State} {args : Array Value} (hts : ∀ w ∈ lw_all, w.before args s = true) (hX : XW g A s) : ∀ w ∈ vx_atM "java/lang/NegativeArraySizeException" ["java/lang/RuntimeException", "java/lang/Exception"], w.before args s = true := by
  have e2 : (vx_atM "java/lang/NegativeArraySizeException" ["java/lang/RuntimeException", "java/lang/Exception"]).filter (fun w => !goodWord w) = [.declares ⟨"java/lang/RuntimeException", "<init>", "(Ljava/lang/String;)V"⟩, .declares ⟨"java/lang/Exception", "<init>", "(Ljava/lang/String;)V"⟩, .declares ⟨"java/lang/Throwable", "<init>", "(Ljava/lang/String;)V"⟩, .castable "java/lang/NegativeArraySizeException" "java/lang/NegativeArraySizeException"] := by decide +kernel
  refine vx_hat (B := [.declares ⟨"java/lang/RuntimeException", "<init>", "(Ljava/lang/String;)V"⟩, .declares ⟨"java/lang/Exception", "<init>", "(Ljava/lang/String;)V"⟩, .declares ⟨"java/lang/Throwable", "<init>", "(Ljava/lang/String;)V"⟩, .castable "java/lang/NegativeArraySizeException" "java/lang/NegativeArraySizeException"]) (fun w h => hts w (lw_in _ [80, 332, 272, 294, 297, 299, 333, 334, 116, 117, 266, 271, 295, 302, 326, 303, 327, 304, 328, 267, 269, 329, 264, 265, 301, 329, 255, 256, 257, 258, 258, 259, 260, 261, 261, 262, 263, 264, 84, 335, 336, 337, 339, 338, 340, 83, 254, 325, 279, 309, 311, 315, 307, 300, 330, 305] (by decide +kernel) (by decide +kernel) w h)) (fun w h => by rw [e2] at h; exact h) ?_
  exact (vx_c (xw_dec hX 1 rfl) (vx_c (xw_dec hX 2 rfl) (vx_c (xw_dec hX 3 rfl) (vx_c (b_castC hX 0 rfl) vx_n))))
theorem xg_N : ∀ w ∈ vx_atM "java/lang/NegativeArraySizeException" ["java/lang/RuntimeException", "java/lang/Exception"], vx_ot w = true := by decide +kernel
/-- the machine throws NegativeArraySizeException -/
theorem b_thN {p : Program} {l : Launch} {e : Env} {R : Room} {s : State} {m : MethodId} {args : Array Value} {below : List Frame} {meth : Method} {c : Code} {H : Heap} {locs : List Loc} {cells slots : Nat} {Q : State → Prop} {pc : Nat} {ls : Array Slot} {rest : List Value} {D : va_G} {g : Nat → ClassId} {A : Nat → Prop} {Bs : List va_W} {i : Int32} {tx : String} (hx : p.tables.exec = Jvm.exec) (hst : l.stackTraces = false) (hts : ∀ w ∈ lw_all, w.before args s = true) (hW : bW D g A s H locs Bs) (hsize : ls.size = c.maxLocals) (hlk : meth.locks = false) (hn : i < 0) (htx : tx = toString i) (hR : 8 < R.frames ∧ 10300 ≤ R.locals) (hrest : (rest.map fun v => v.category).sum ≤ 60) (hcs : cells + 3 ≤ R.cells ∧ slots + 54 ≤ R.slots)
    (k : ∀ (H : Heap) (q : Nat) (ce : Cell), bW D g A s H locs Bs → H[q]? = some ce → ce.vm = .none → s.vm.findClass "java/lang/NegativeArraySizeException" = some ce.cls → vx_W p l e R s m args below meth c H locs (cells + 3) (slots + 54) Q (F0 m pc ls rest) q) : vx_Note p l e R s m args below meth c H locs cells slots Q (F0 m pc ls rest) "java/lang/NegativeArraySizeException" tx := by
  subst htx
  exact vx_vm hx hst (nb := 44) (A := A) (names := ["java/lang/RuntimeException", "java/lang/Exception"]) (by decide +kernel) (by decide +kernel) (by decide) (by decide) (xh_N hts hW.2.2.2.2.2) xg_N (b_eK hW).2.2.2.1 (b_eK hW).2.2.2.2.1 hW.2.2.2.1 hsize (negative_text_modelled hn) (negative_text_bytes i) (by decide) (by show _ + 4 < _; have := hR.1; simp; omega) (by have := hR.2; omega) (by simp) hcs.1 hcs.2 hlk (fun H1 q ce h1 h2 h3 h4 h5 h6 => k H1 q ce (b_new2 hW h2 h3) h4 h5 h6)
theorem xh_S {g : Nat → ClassId} {A : Nat → Prop} {s : State} {args : Array Value} (hts : ∀ w ∈ lw_all, w.before args s = true) (hX : XW g A s) : ∀ w ∈ vx_atM "java/lang/ArrayStoreException" ["java/lang/RuntimeException", "java/lang/Exception"], w.before args s = true := by
  have e2 : (vx_atM "java/lang/ArrayStoreException" ["java/lang/RuntimeException", "java/lang/Exception"]).filter (fun w => !goodWord w) = [.declares ⟨"java/lang/RuntimeException", "<init>", "(Ljava/lang/String;)V"⟩, .declares ⟨"java/lang/Exception", "<init>", "(Ljava/lang/String;)V"⟩, .declares ⟨"java/lang/Throwable", "<init>", "(Ljava/lang/String;)V"⟩, .castable "java/lang/ArrayStoreException" "java/lang/ArrayStoreException"] := by decide +kernel
  refine vx_hat (B := [.declares ⟨"java/lang/RuntimeException", "<init>", "(Ljava/lang/String;)V"⟩, .declares ⟨"java/lang/Exception", "<init>", "(Ljava/lang/String;)V"⟩, .declares ⟨"java/lang/Throwable", "<init>", "(Ljava/lang/String;)V"⟩, .castable "java/lang/ArrayStoreException" "java/lang/ArrayStoreException"]) (fun w h => hts w (lw_in _ [80, 332, 272, 294, 297, 299, 333, 334, 116, 117, 266, 271, 295, 302, 326, 303, 327, 304, 328, 267, 269, 329, 264, 265, 301, 329, 454, 455, 456, 258, 258, 259, 260, 261, 261, 262, 263, 264, 84, 335, 336, 337, 339, 338, 340, 89, 453, 465, 277, 459, 460, 462, 458, 300, 330, 457] (by decide +kernel) (by decide +kernel) w h)) (fun w h => by rw [e2] at h; exact h) ?_
  exact (vx_c (xw_dec hX 1 rfl) (vx_c (xw_dec hX 2 rfl) (vx_c (xw_dec hX 3 rfl) (vx_c (b_castC hX 5 rfl) vx_n))))
theorem xg_S : ∀ w ∈ vx_atM "java/lang/ArrayStoreException" ["java/lang/RuntimeException", "java/lang/Exception"], vx_ot w = true := by decide +kernel
theorem xh_C {g : Nat → ClassId} {A : Nat → Prop} {s : State} {args : Array Value} (hts : ∀ w ∈ lw_all, w.before args s = true) (hX : XW g A s) : ∀ w ∈ vx_atM "java/lang/ClassCastException" ["java/lang/RuntimeException", "java/lang/Exception"], w.before args s = true := by
  have e2 : (vx_atM "java/lang/ClassCastException" ["java/lang/RuntimeException", "java/lang/Exception"]).filter (fun w => !goodWord w) = [.declares ⟨"java/lang/RuntimeException", "<init>", "(Ljava/lang/String;)V"⟩, .declares ⟨"java/lang/Exception", "<init>", "(Ljava/lang/String;)V"⟩, .declares ⟨"java/lang/Throwable", "<init>", "(Ljava/lang/String;)V"⟩, .castable "java/lang/ClassCastException" "java/lang/ClassCastException"] := by decide +kernel
  refine vx_hat (B := [.declares ⟨"java/lang/RuntimeException", "<init>", "(Ljava/lang/String;)V"⟩, .declares ⟨"java/lang/Exception", "<init>", "(Ljava/lang/String;)V"⟩, .declares ⟨"java/lang/Throwable", "<init>", "(Ljava/lang/String;)V"⟩, .castable "java/lang/ClassCastException" "java/lang/ClassCastException"]) (fun w h => hts w (lw_in _ [80, 332, 272, 294, 297, 299, 333, 334, 116, 117, 266, 271, 295, 302, 326, 303, 327, 304, 328, 267, 269, 329, 264, 265, 301, 329, 495, 496, 497, 258, 258, 259, 260, 261, 261, 262, 263, 264, 84, 335, 336, 337, 339, 338, 340, 91, 494, 506, 278, 500, 501, 503, 499, 300, 330, 498] (by decide +kernel) (by decide +kernel) w h)) (fun w h => by rw [e2] at h; exact h) ?_
  exact (vx_c (xw_dec hX 1 rfl) (vx_c (xw_dec hX 2 rfl) (vx_c (xw_dec hX 3 rfl) (vx_c (b_castC hX 6 rfl) vx_n))))
theorem xg_C : ∀ w ∈ vx_atM "java/lang/ClassCastException" ["java/lang/RuntimeException", "java/lang/Exception"], vx_ot w = true := by decide +kernel
