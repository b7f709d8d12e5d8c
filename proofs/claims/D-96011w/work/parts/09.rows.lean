/-! ROWS over lists of blocks -/
set_option maxRecDepth 100000
section BRW
variable {p : Program} {l : Launch} {e : Env} {R : Room} {s : State} {m : MethodId} {args : Array Value} {below : List Frame} {meth : Method} {c : Code} {H : Heap} {locs : List Loc} {cells slots : Nat} {Q : State → Prop}
variable {e0 : Env} {cc : ByteArray} {pc : Nat} {ls : Array Slot} {rest : List Value} {D : va_G} {g : Nat → ClassId} {A : Nat → Prop} {a : Nat} {Bs Bs' : List va_W} {w w' : va_W}
theorem b_perms (hW : bW D g A s H locs Bs) (h : Bs.Perm Bs') : bW D g A s H locs Bs' := ⟨hW.1, b_Pperm (b_flat h) hW.2.1, b_Dperm (b_flat h) hW.2.2.1, hW.2.2.2⟩
theorem b_sub {wr : List va_W} (hW : bW D g A s H locs Bs) (h : Bs.Perm (Bs' ++ wr)) : bW D g A s H locs Bs' := by
  obtain ⟨h1, h2, h3, h4⟩ := b_perms hW h
  rw [List.flatten_append] at h2 h3
  exact ⟨h1, b_Pmem.mpr fun q hq => b_Pmem.mp h2 q (List.mem_append_left _ hq), (b_Dapp h3).1, h4⟩
theorem b_iald (hx : p.tables.exec = Jvm.exec) (hb : c.code = cc) (hW : bW D g A s H locs Bs) (pp q : Nat) (hp : Bs[pp]? = some w) {n : Nat} {f : Nat → Int32} (hq : w[q]? = some (a, .inl (g 0, n, .inl f))) {i : Int32} (hin : inB i n = true) (hdg : decode cc pc = .ok (.iaload, 1))
    (kk : W p l e R s m args below meth c H locs cells slots Q (F0 m (pc + 1) ls (.int (f (ix i)) :: rest))) : W p l e R s m args below meth c H locs cells slots Q (F0 m pc ls (.int i :: .ref a :: rest)) := by
  obtain ⟨k, hk, -⟩ := b_loc Bs pp q w _ hp hq
  exact va_iald hx hb hW.1 hW.2.1 k 0 hk rfl (inB_in hin) hdg kk
theorem b_iast (hx : p.tables.exec = Jvm.exec) (hb : c.code = cc) (hW : bW D g A s H locs Bs) (pp q : Nat) (hp : Bs[pp]? = some w) {n : Nat} {f : Nat → Int32} (hq : w[q]? = some (a, .inl (g 0, n, .inl f))) {i x : Int32} (hs : w.set q (a, .inl (g 0, n, .inl (upd f (ix i) x))) = w') (hB : Bs.set pp w' = Bs') (hin : inB i n = true) (hdg : decode cc pc = .ok (.iastore, 1))
    (kk : ∀ (H : Heap) (locs : List Loc), bW D g A s H locs Bs' → W p l e R s m args below meth c H locs cells slots Q (F0 m (pc + 1) ls rest)) : W p l e R s m args below meth c H locs cells slots Q (F0 m pc ls (.int x :: .int i :: .ref a :: rest)) := by
  obtain ⟨k, hk, hset⟩ := b_loc Bs pp q w _ hp hq
  obtain ⟨h1, h2, h3, h4, h5⟩ := hW
  refine va_iast hx hb h1 h2 h3 h4 k 0 hk rfl (inB_in hin) hdg fun H1 l1 hP hD hS => ?_
  rw [hset, hs, hB] at hP hD
  exact kk H1 l1 ⟨h1, hP, hD, hS, h5⟩
theorem b_lald (hx : p.tables.exec = Jvm.exec) (hb : c.code = cc) (hW : bW D g A s H locs Bs) (pp q : Nat) (hp : Bs[pp]? = some w) {n : Nat} {f : Nat → Int64} (hq : w[q]? = some (a, .inl (g 1, n, .inr (.inl f)))) {i : Int32} (hin : inB i n = true) (hdg : decode cc pc = .ok (.laload, 1))
    (kk : W p l e R s m args below meth c H locs cells slots Q (F0 m (pc + 1) ls (.long (f (ix i)) :: rest))) : W p l e R s m args below meth c H locs cells slots Q (F0 m pc ls (.int i :: .ref a :: rest)) := by
  obtain ⟨k, hk, -⟩ := b_loc Bs pp q w _ hp hq
  exact va_lald hx hb hW.1 hW.2.1 k 1 hk rfl (inB_in hin) hdg kk
theorem b_last (hx : p.tables.exec = Jvm.exec) (hb : c.code = cc) (hW : bW D g A s H locs Bs) (pp q : Nat) (hp : Bs[pp]? = some w) {n : Nat} {f : Nat → Int64} (hq : w[q]? = some (a, .inl (g 1, n, .inr (.inl f)))) {i : Int32} {x : Int64} (hs : w.set q (a, .inl (g 1, n, .inr (.inl (vp_updL f (ix i) x)))) = w') (hB : Bs.set pp w' = Bs') (hin : inB i n = true) (hdg : decode cc pc = .ok (.lastore, 1))
    (kk : ∀ (H : Heap) (locs : List Loc), bW D g A s H locs Bs' → W p l e R s m args below meth c H locs cells slots Q (F0 m (pc + 1) ls rest)) : W p l e R s m args below meth c H locs cells slots Q (F0 m pc ls (.long x :: .int i :: .ref a :: rest)) := by
  obtain ⟨k, hk, hset⟩ := b_loc Bs pp q w _ hp hq
  obtain ⟨h1, h2, h3, h4, h5⟩ := hW
  refine va_last hx hb h1 h2 h3 h4 k 1 hk rfl (inB_in hin) hdg fun H1 l1 hP hD hS => ?_
  rw [hset, hs, hB] at hP hD
  exact kk H1 l1 ⟨h1, hP, hD, hS, h5⟩
/-- a row of a grid of ints (outer array of class g 7) or longs (g 8): the outer array never changes -/
theorem b_agrI (hx : p.tables.exec = Jvm.exec) (hb : c.code = cc) (hW : bW D g A s H locs Bs) (pp q : Nat) (hp : Bs[pp]? = some w) {n : Nat} {r : Nat → Nat} (hq : w[q]? = some (a, .inl (g 7, n, .inr (.inr (.inr (.inr (fun j => some (r j)))))))) {i : Int32} (hin : inB i n = true) (hdg : decode cc pc = .ok (.aaload, 1))
    (kk : W p l e R s m args below meth c H locs cells slots Q (F0 m (pc + 1) ls (.ref (r (ix i)) :: rest))) : W p l e R s m args below meth c H locs cells slots Q (F0 m pc ls (.int i :: .ref a :: rest)) := by
  obtain ⟨k, hk, -⟩ := b_loc Bs pp q w _ hp hq
  have hlt := inB_lt hin
  exact W.aald (v := .ref (r (ix i))) (ty := .array .int) hx hb (hW.2.1 k _ hk) ((hW.1.2 7 _ rfl).1 n (fun j => .ref (r j))) rfl (fun q => by cases q) (by show ¬ (i < 0 ∨ (arrV _ _ _).slots.size ≤ _); rw [arrV_size]; exact inB_in hin) (by show (arrV _ _ _).slots[_]? = _; rw [arrV_read _ _ hlt]; rfl) rfl rfl hdg kk
theorem b_agrL (hx : p.tables.exec = Jvm.exec) (hb : c.code = cc) (hW : bW D g A s H locs Bs) (pp q : Nat) (hp : Bs[pp]? = some w) {n : Nat} {r : Nat → Nat} (hq : w[q]? = some (a, .inl (g 8, n, .inr (.inr (.inr (.inr (fun j => some (r j)))))))) {i : Int32} (hin : inB i n = true) (hdg : decode cc pc = .ok (.aaload, 1))
    (kk : W p l e R s m args below meth c H locs cells slots Q (F0 m (pc + 1) ls (.ref (r (ix i)) :: rest))) : W p l e R s m args below meth c H locs cells slots Q (F0 m pc ls (.int i :: .ref a :: rest)) := by
  obtain ⟨k, hk, -⟩ := b_loc Bs pp q w _ hp hq
  have hlt := inB_lt hin
  exact W.aald (v := .ref (r (ix i))) (ty := .array .long) hx hb (hW.2.1 k _ hk) ((hW.1.2 8 _ rfl).1 n (fun j => .ref (r j))) rfl (fun q => by cases q) (by show ¬ (i < 0 ∨ (arrV _ _ _).slots.size ≤ _); rw [arrV_size]; exact inB_in hin) (by show (arrV _ _ _).slots[_]? = _; rw [arrV_read _ _ hlt]; rfl) rfl rfl hdg kk
/-- a place of an array of goers (t = 5) or sheets (t = 6) -/
theorem b_aald (hx : p.tables.exec = Jvm.exec) (hb : c.code = cc) (hW : bW D g A s H locs Bs) (pp q t : Nat) (hp : Bs[pp]? = some w) {n : Nat} {C : String} {f : Nat → Option Nat} (hq : w[q]? = some (a, .inl (g t, n, .inr (.inr (.inr (.inr f)))))) (ht : (TY g)[t]? = some (g t, .object C)) {i : Int32} (hin : inB i n = true) (hdg : decode cc pc = .ok (.aaload, 1))
    (kk : W p l e R s m args below meth c H locs cells slots Q (F0 m (pc + 1) ls (va_rf (f (ix i)) :: rest))) : W p l e R s m args below meth c H locs cells slots Q (F0 m pc ls (.int i :: .ref a :: rest)) := by
  obtain ⟨k, hk, -⟩ := b_loc Bs pp q w _ hp hq
  exact va_aldq hx hb hW.1 hW.2.1 k t hk ht (inB_in hin) hdg kk
theorem b_split {r : Option Nat} (hn : r = none → W p l e R s m args below meth c H locs cells slots Q (F0 m pc ls (.null :: rest))) (hs : ∀ z : Nat, r = some z → W p l e R s m args below meth c H locs cells slots Q (F0 m pc ls (.ref z :: rest))) : W p l e R s m args below meth c H locs cells slots Q (F0 m pc ls (va_rf r :: rest)) := by
  cases r with
  | none => exact hn rfl
  | some z => exact hs z rfl
theorem b_alen (hx : p.tables.exec = Jvm.exec) (hb : c.code = cc) (hW : bW D g A s H locs Bs) (pp q t : Nat) (hp : Bs[pp]? = some w) {x : vp_A} {ty : FieldType} (hq : w[q]? = some (a, .inl (g t, x))) (ht : (TY g)[t]? = some (g t, ty)) {v : Int32} (hv : Int32.ofNat x.1 = v) (hdg : decode cc pc = .ok (.arraylength, 1))
    (kk : W p l e R s m args below meth c H locs cells slots Q (F0 m (pc + 1) ls (.int v :: rest))) : W p l e R s m args below meth c H locs cells slots Q (F0 m pc ls (.ref a :: rest)) := by
  obtain ⟨k, hk, -⟩ := b_loc Bs pp q w _ hp hq
  exact va_alen hx hb hW.1 hW.2.1 k t hk ht hv hdg kk
theorem b_get (hx : p.tables.exec = Jvm.exec) (hb : c.code = cc) {own ref C : String} {T : u_T} {N index : Nat} (hts : ∀ w ∈ lw_all, w.before args s = true) (hin : ∀ w ∈ u_ws C T N, w ∈ lw_all) (hown : s.vm.findClass own = some m.cls) (hW : bW D g A s H locs Bs) (pp q ci k : Nat) (hp : Bs[pp]? = some w) {fs : List Value} (hq : w[q]? = some (a, .inr (ci, fs))) (hc : CL[ci]? = some (C, T, N)) (hk : k < N) {nm ds : String} (hT : (T k).2.1 = nm ∧ (T k).2.2.1 = ds ∧ (T k).1 = ref) (hlink : (Cond.fieldLink own index ref nm ds).before args s = true) {v : Value} (hv : fs[k]? = some v) (hdg : decode cc pc = .ok (.getfield index, 3))
    (kk : W p l e R s m args below meth c H locs cells slots Q (F0 m (pc + 3) ls (v :: rest))) : W p l e R s m args below meth c H locs cells slots Q (F0 m pc ls (.ref a :: rest)) := by
  obtain ⟨j, hj, -⟩ := b_loc Bs pp q w _ hp hq
  obtain ⟨rfl, rfl, rfl⟩ := hT
  exact va_get hx hb hts hin hown hW.1 hW.2.1 j hj hc k hk hlink (fun _ h => h) hv hdg kk
theorem b_put (hx : p.tables.exec = Jvm.exec) (hb : c.code = cc) {own ref C : String} {T : u_T} {N index : Nat} (hts : ∀ w ∈ lw_all, w.before args s = true) (hin : ∀ w ∈ u_ws C T N, w ∈ lw_all) (ty0 : Nat → FieldType) (hty : ∀ k, k < N → parseFieldDescriptor (T k).2.2.1 = some (ty0 k)) (hnm : ∀ a, a < N → ∀ b, b < N → a ≠ b → (T a).2.1 ≠ (T b).2.1) (hown : s.vm.findClass own = some m.cls) (hW : bW D g A s H locs Bs) (pp q ci k : Nat) (hp : Bs[pp]? = some w) {fs : List Value} (hq : w[q]? = some (a, .inr (ci, fs))) {v : Value} (hs : w.set q (a, .inr (ci, fs.set k v)) = w') (hB : Bs.set pp w' = Bs') (hc : CL[ci]? = some (C, T, N)) (hk : k < N) {nm ds : String} (hT : (T k).2.1 = nm ∧ (T k).2.2.1 = ds ∧ (T k).1 = ref) (hlink : (Cond.fieldLink own index ref nm ds).before args s = true) (hfin : (T k).2.2.2 = false) {ty : FieldType} (hd : ty0 k = ty) (hn : narrow ty v = v) (hfit : fits ty v = true) (hl : k < fs.length) (hdg : decode cc pc = .ok (.putfield index, 3))
    (kk : ∀ (H : Heap) (locs : List Loc), bW D g A s H locs Bs' → W p l e R s m args below meth c H locs cells slots Q (F0 m (pc + 3) ls rest)) : W p l e R s m args below meth c H locs cells slots Q (F0 m pc ls (v :: .ref a :: rest)) := by
  obtain ⟨j, hj, hset⟩ := b_loc Bs pp q w _ hp hq
  obtain ⟨rfl, rfl, rfl⟩ := hT
  obtain ⟨h1, h2, h3, h4, h5⟩ := hW
  refine va_put hx hb hts hin ty0 hty hnm hown h1 h2 h3 h4 j hj hc k hk hlink (fun _ h => h) hfin (by rw [hty k hk, hd]) hn hfit hl hdg fun H1 l1 hP hD hS => ?_
  rw [hset, hs, hB] at hP hD
  exact kk H1 l1 ⟨h1, hP, hD, hS, h5⟩
theorem b_putF (hx : p.tables.exec = Jvm.exec) (hb : c.code = cc) {own ref C : String} {T : u_T} {N index : Nat} (hts : ∀ w ∈ lw_all, w.before args s = true) (hin : ∀ w ∈ u_ws C T N, w ∈ lw_all) (ty0 : Nat → FieldType) (hty : ∀ k, k < N → parseFieldDescriptor (T k).2.2.1 = some (ty0 k)) (hnm : ∀ a, a < N → ∀ b, b < N → a ≠ b → (T a).2.1 ≠ (T b).2.1) (hown : s.vm.findClass own = some m.cls) (hW : bW D g A s H locs Bs) (pp q ci k : Nat) (hp : Bs[pp]? = some w) {fs : List Value} (hq : w[q]? = some (a, .inr (ci, fs))) {v : Value} (hs : w.set q (a, .inr (ci, fs.set k v)) = w') (hB : Bs.set pp w' = Bs') (hc : CL[ci]? = some (C, T, N)) (hk : k < N) {nm ds : String} (hT : (T k).2.1 = nm ∧ (T k).2.2.1 = ds ∧ (T k).1 = ref) (hlink : (Cond.fieldLink own index ref nm ds).before args s = true) (hfin : (T k).2.2.2 = true) (hin2 : meth.name = "<init>") (hdecl : ref = own) {ty : FieldType} (hd : ty0 k = ty) (hn : narrow ty v = v) (hfit : fits ty v = true) (hl : k < fs.length) (hdg : decode cc pc = .ok (.putfield index, 3))
    (kk : ∀ (H : Heap) (locs : List Loc), bW D g A s H locs Bs' → W p l e R s m args below meth c H locs cells slots Q (F0 m (pc + 3) ls rest)) : W p l e R s m args below meth c H locs cells slots Q (F0 m pc ls (v :: .ref a :: rest)) := by
  obtain ⟨j, hj, hset⟩ := b_loc Bs pp q w _ hp hq
  obtain ⟨rfl, rfl, rfl⟩ := hT
  obtain ⟨h1, h2, h3, h4, h5⟩ := hW
  refine va_putF hx hb hts hin ty0 hty hnm hown h1 h2 h3 h4 j hj hc k hk hlink (fun _ h => h) hfin hin2 hdecl (by rw [hty k hk, hd]) hn hfit hl hdg fun H1 l1 hP hD hS => ?_
  rw [hset, hs, hB] at hP hD
  exact kk H1 l1 ⟨h1, hP, hD, hS, h5⟩
/-- a new object, a block of its own, behind the others -/
theorem b_new (hx : p.tables.exec = Jvm.exec) (hb : c.code = cc) {own C : String} {T : u_T} {N ci index : Nat} (hts : ∀ w ∈ lw_all, w.before args s = true) (hin : ∀ w ∈ u_ws C T N, w ∈ lw_all) (ty : Nat → FieldType) (hty : ∀ k, k < N → parseFieldDescriptor (T k).2.2.1 = some (ty k)) (hown : s.vm.findClass own = some m.cls) (hcl : (Cond.classLink own index C).before args s = true) (hinst : (Cond.instantiable C N).before args s = true) (hini : (Cond.initialized C).before args s = true)
    (hW : bW D g A s H locs Bs) (hc : CL[ci]? = some (C, T, N)) {fs : List Value} (hfs : ∀ j, j < N → defaultValue (ty j) = vp_V fs j) (hcells : cells + 1 ≤ R.cells) (hslots : slots + N ≤ R.slots) (hdg : decode cc pc = .ok (.new index, 3))
    (kk : ∀ (z : Nat) (H : Heap), bW D g A s H locs (Bs ++ [[(z, .inr (ci, fs))]]) → W p l e R s m args below meth c H locs (cells + 1) (slots + N) Q (F0 m (pc + 3) ls (.ref z :: rest))) : W p l e R s m args below meth c H locs cells slots Q (F0 m pc ls rest) := by
  obtain ⟨h1, h2, h3, h4, h5, h6⟩ := hW
  refine va_new hx hb hts hin ty hty hown hcl hinst hini h1 h2 h3 h4 h5 hc hfs hcells hslots hdg fun z H1 hP hD hS => ?_
  exact kk z H1 ⟨h1, by rw [List.flatten_append]; simpa using hP, by rw [List.flatten_append]; simpa using hD, hS, h5, h6⟩
theorem b_RA {U : State} {c1 c2 : ClassId} {ty : FieldType} (h1 : va_RA U c1 ty) (h2 : va_RA U c2 ty) : c1 = c2 := by
  cases ty with
  | object C =>
    obtain ⟨_, _, _, _, _, a4⟩ := h1
    obtain ⟨_, _, _, _, _, b4⟩ := h2
    exact Option.some.inj (a4.symm.trans b4)
  | _ => exact Option.some.inj ((show U.vm.findClass _ = some c1 from h1).symm.trans h2)
theorem b_newa (hx : p.tables.exec = Jvm.exec) (hb : c.code = cc) {atype : ArrayType} (harr : (Cond.arrayClass (newarray.typeOf atype)).before args s = true) {ty : FieldType} (hty : newarray.typeOf atype = ty) (hW : bW D g A s H locs Bs) (t : Nat) (ht : (TY g)[t]? = some (g t, ty))
    {n : Int32} {N' : Nat} {a0 : vp_A} (ha : ∀ cA : ClassId, vp_cell cA a0 = arrV cA N' (fun _ => defaultValue ty)) (hn : ¬ n < 0) (hN : n.toNatClampNeg = N') (hbytes : N' * componentBytes ty ≤ 536870912) (hcells : cells + 1 ≤ R.cells) (hslots : slots + N' ≤ R.slots) (hdg : decode cc pc = .ok (.newarray atype, 2))
    (kk : ∀ (z : Nat) (H : Heap), bW D g A s H locs (Bs ++ [[(z, .inl (g t, a0))]]) → W p l e R s m args below meth c H locs (cells + 1) (slots + N') Q (F0 m (pc + 2) ls (.ref z :: rest))) : W p l e R s m args below meth c H locs cells slots Q (F0 m pc ls (.int n :: rest)) := by
  obtain ⟨h1, h2, h3, h4, h5, h6⟩ := hW
  refine va_newa hx hb harr hty h1 h2 h3 h4 h5 ha hn hN hbytes hcells hslots hdg fun z cA H1 hK hP hD hS => ?_
  have e : cA = g t := b_RA (hK.2 9 (cA, ty) rfl).2 (h1.2 t _ ht).2
  subst e
  exact kk z H1 ⟨h1, by rw [List.flatten_append]; simpa using hP, by rw [List.flatten_append]; simpa using hD, hS, h5, h6⟩
theorem b_newq (hx : p.tables.exec = Jvm.exec) (hb : c.code = cc) {own C : String} {index : Nat} (hown : s.vm.findClass own = some m.cls) (hclink : (Cond.classLink own index C).before args s = true) (hC : C ∈ xwA) (hW : bW D g A s H locs Bs) (t : Nat) (ht : (TY g)[t]? = some (g t, .object C))
    {n : Int32} {N' : Nat} (hn : ¬ n < 0) (hN : n.toNatClampNeg = N') (hbytes : N' * 4 ≤ 536870912) (hcells : cells + 1 ≤ R.cells) (hslots : slots + N' ≤ R.slots) (hdg : decode cc pc = .ok (.anewarray index, 3))
    (kk : ∀ (z : Nat) (H : Heap), bW D g A s H locs (Bs ++ [[(z, .inl (g t, N', .inr (.inr (.inr (.inr (fun _ => none))))))]]) → W p l e R s m args below meth c H locs (cells + 1) (slots + N') Q (F0 m (pc + 3) ls (.ref z :: rest))) : W p l e R s m args below meth c H locs cells slots Q (F0 m pc ls (.int n :: rest)) := by
  obtain ⟨h1, h2, h3, h4, h5, h6⟩ := hW
  refine va_newq hx hb hown hclink (h6.2.2.2.2.1 C hC) h1 h2 h3 h4 h5 hn hN hbytes hcells hslots hdg fun z cA H1 hK hP hD hS => ?_
  have e : cA = g t := b_RA (hK.2 9 (cA, .object C) rfl).2 (h1.2 t _ ht).2
  subst e
  exact kk z H1 ⟨h1, by rw [List.flatten_append]; simpa using hP, by rw [List.flatten_append]; simpa using hD, hS, h5, h6⟩
/-! calls -/
theorem b_pre {wc wr : List va_W} {av : List Value} (hW : bW D g A s H locs Bs) (hp : Bs.Perm (wc ++ wr)) : ∀ U : State, U.heap = H → s.WarmedH U.vm → va_Pc av (bPre D g H.size wc) av.toArray U := by
  intro U hU hV
  obtain ⟨h1, h2, h3, h4, h5, h6⟩ := b_sub hW hp
  refine ⟨rfl, by rw [hU], by rw [hU]; exact h2, va_K.moved hV.alike h1, h3.weaken (fun _ _ _ _ => trivial), XW.warm hV (fun a ha hn => by rw [hU]; exact h4.2.1 a ha hn) (fun q hq => ?_) h6⟩
  rcases hq with ⟨k, e, h⟩ | hq
  · exact h3.2 k (q, e) h
  · exact h5 q (Nat.le_trans h4.1 hq)
theorem b_recv {C : String} {T : u_T} {N : Nat} (hW : bW D g A s H locs Bs) {pp q ci : Nat} (hp : Bs[pp]? = some w) {fs : List Value} (hq : w[q]? = some (a, .inr (ci, fs))) (hc : CL[ci]? = some (C, T, N)) : ∃ cell : Cell, H[a]? = some cell ∧ cell.vm.isStatics = false ∧ s.vm.findClass C = some cell.cls := by
  obtain ⟨k, hk, -⟩ := b_loc Bs pp q w _ hp hq
  exact va_recv hW.1 hW.2.1 hc hk
theorem b_preV {wc wr : List va_W} {As : List Value} {C : String} {T : u_T} {N : Nat} (hW : bW D g A s H locs Bs) (hp : Bs.Perm (wc ++ wr)) {pp q ci : Nat} (hp1 : Bs[pp]? = some w) {fs : List Value} (hq : w[q]? = some (a, .inr (ci, fs))) (hc : CL[ci]? = some (C, T, N)) : PreV s H C a (va_Pc (.ref a :: As) (bPre D g H.size wc)) As :=
  ⟨b_blind, b_recv hW hp1 hq hc, b_pre hW hp⟩
theorem b_preS {wc wr : List va_W} {As : List Value} (hW : bW D g A s H locs Bs) (hp : Bs.Perm (wc ++ wr)) : PreS s H (va_Pc As (bPre D g H.size wc)) As := ⟨b_blind, b_pre hW hp⟩
/-- behind a call: what the callee's blocks became, and the rest unchanged -/
theorem b_join {wc wr w1 : List va_W} {H1 : Heap} {L : List Loc} (hW : bW D g A s H locs Bs) (hp : Bs.Perm (wc ++ wr)) {st t : State} (h0 : st.heap = H) (e1 : H1 = t.heap) (hL : ∀ q ∈ L, bA wc H.size q.base) (hq : bPost D (bA wc H.size) w1 t) (hF : va_F (bA wc H.size) st t) : bW D g A s H1 (locs ++ L) (w1 ++ wr) := by
  obtain ⟨h1, h2, h3, h4, h5, h6⟩ := b_perms hW hp
  subst h0; subst e1
  rw [List.flatten_append] at h2 h3
  obtain ⟨d1, d2, d3⟩ := b_Dapp h3
  have hAc : ∀ q, bA wc st.heap.size q → A q := by
    intro q h
    rcases h with ⟨k, e, h⟩ | h
    · exact d1.2 k (q, e) h
    · exact h5 q (Nat.le_trans h4.1 h)
  have hr : ∀ q ∈ wr.flatten, q.1 < st.heap.size ∧ ¬ bA wc st.heap.size q.1 := by
    intro q hq1
    have hl : q.1 < st.heap.size := (b_Pmem.mp h2 q (List.mem_append_right _ hq1)).lt
    refine ⟨hl, fun h => ?_⟩
    rcases h with ⟨k, e, h⟩ | h
    · exact d3 _ (List.mem_of_getElem? h) q hq1 rfl
    · omega
  refine ⟨h1, ?_, ?_, ⟨Nat.le_trans h4.1 hF.1, fun q g1 g2 => ?_, fun q hq1 => ?_⟩, h5, h6⟩
  · rw [List.flatten_append]
    exact va_P.app hq.1 (b_Pmem.mpr fun q hq1 => (b_Pmem.mp h2 q (List.mem_append_right _ hq1)).kept (hF.2 q.1 (hr q hq1).1 (hr q hq1).2))
  · rw [List.flatten_append]
    refine b_Dcat (hq.2.weaken (fun k q _ h => hAc q.1 h)) d2 fun x hx y hy e => ?_
    exact (hr y hy).2 (e ▸ (b_Dmem.mp hq.2).2 x hx)
  · rw [hF.2 q (Nat.lt_of_lt_of_le g1 h4.1) (fun z => g2 (hAc q z))]
    exact h4.2.1 q g1 g2
  · rcases List.mem_append.mp hq1 with h | h
    · exact h4.2.2 q h
    · exact hAc _ (hL q h)
theorem b_call {S : Type} {av : Array Value} {st0 : List Value} {mc ms : Nat} {wc wr : List va_W} {ok : S → Prop} {rv : S → Option Value} {w1 : S → List va_W} (hr : va_Run p l e R s m args below meth c H locs cells slots mc ms (F0 m pc ls st0) rest (bQ D H.size wc ok rv w1 av) (bA wc H.size)) (hW : bW D g A s H locs Bs) (hp : Bs.Perm (wc ++ wr))
    (kk : ∀ u : S, ok u → ∀ (H : Heap) (locs : List Loc), bW D g A s H locs (w1 u ++ wr) → W p l e R s m args below meth c H locs (cells + mc) (slots + ms) Q (F0 m (pc + 3) ls ((rv u).toList ++ rest))) : W p l e R s m args below meth c H locs cells slots Q (F0 m pc ls st0) := by
  intro T hT X
  obtain ⟨v, st₀, t, T', L, h0, X', hL, e1, e2, ⟨⟨u, hv, hok, hb⟩, hF⟩, st⟩ := hr T hT X
  cases hv
  obtain ⟨t2, a1, b1⟩ := kk u hok T'.heap (locs ++ L) (b_join hW hp h0 e1 hL hb hF) T' rfl X'
  exact ⟨t2, st t2 a1, b1⟩
theorem b_call5 {S : Type} {av : Array Value} {st0 : List Value} {mc ms : Nat} {wc wr : List va_W} {ok : S → Prop} {rv : S → Option Value} {w1 : S → List va_W} (hr : va_Run5 p l e R s m args below meth c H locs cells slots mc ms (F0 m pc ls st0) rest (bQ D H.size wc ok rv w1 av) (bA wc H.size)) (hW : bW D g A s H locs Bs) (hp : Bs.Perm (wc ++ wr))
    (kk : ∀ u : S, ok u → ∀ (H : Heap) (locs : List Loc), bW D g A s H locs (w1 u ++ wr) → W p l e R s m args below meth c H locs (cells + mc) (slots + ms) Q (F0 m (pc + 5) ls ((rv u).toList ++ rest))) : W p l e R s m args below meth c H locs cells slots Q (F0 m pc ls st0) := by
  intro T hT X
  obtain ⟨v, st₀, t, T', L, h0, X', hL, e1, e2, ⟨⟨u, hv, hok, hb⟩, hF⟩, st⟩ := hr T hT X
  cases hv
  obtain ⟨t2, a1, b1⟩ := kk u hok T'.heap (locs ++ L) (b_join hW hp h0 e1 hL hb hF) T' rfl X'
  exact ⟨t2, st t2 a1, b1⟩
theorem b_topi {x y : Int32} (e : x = y) (k : W p l e0 R s m args below meth c H locs cells slots Q (F0 m pc ls (.int y :: rest))) : W p l e0 R s m args below meth c H locs cells slots Q (F0 m pc ls (.int x :: rest)) := by
  subst e; exact k
theorem b_topl {x y : Int64} (e : x = y) (k : W p l e0 R s m args below meth c H locs cells slots Q (F0 m pc ls (.long y :: rest))) : W p l e0 R s m args below meth c H locs cells slots Q (F0 m pc ls (.long x :: rest)) := by
  subst e; exact k
/-- a call that makes no cell -/
theorem b_call0 {S : Type} {av : Array Value} {st0 : List Value} {mc ms : Nat} {wc wr : List va_W} {ok : S → Prop} {rv : S → Option Value} {w1 : S → List va_W} (hm : mc = 0 ∧ ms = 0) (hr : va_Run p l e0 R s m args below meth c H locs cells slots mc ms (F0 m pc ls st0) rest (bQ D H.size wc ok rv w1 av) (bA wc H.size)) (hW : bW D g A s H locs Bs) (hp : Bs.Perm (wc ++ wr))
    (kk : ∀ u : S, ok u → ∀ (H : Heap) (locs : List Loc), bW D g A s H locs (w1 u ++ wr) → W p l e0 R s m args below meth c H locs cells slots Q (F0 m (pc + 3) ls ((rv u).toList ++ rest))) : W p l e0 R s m args below meth c H locs cells slots Q (F0 m pc ls st0) := by
  obtain ⟨rfl, rfl⟩ := hm
  exact b_call hr hW hp kk
/-! a method's entry and its ends -/
def bE {S : Type} (below : List Frame) (args : Array Value) (s : State) (rm : Room) (D : va_G) (A : Nat → Prop) (Bs : List va_W) (ok : S → Prop) (rv : S → Option Value) (w1 : S → List va_W) (Q : State → Prop) : Prop :=
  Q = MQ below (bQ D s.heap.size Bs ok rv w1) args s rm.cells rm.slots (bA Bs s.heap.size) ∧ A = bA Bs s.heap.size
theorem bE_q {S : Type} {rm : Room} {ok : S → Prop} {rv : S → Option Value} {w1 : S → List va_W} {B0 : List va_W} (hE : bE below args s rm D A B0 ok rv w1 Q) (hW : bW D g A s H locs Bs') (u : S) (hw : Bs' = w1 u) (hok : ok u) {v : Option Value} (hv : v = rv u) : (∀ t : State, t.heap = H → s.WarmedH t.vm → bQ D s.heap.size B0 ok rv w1 args s (.returned v) t) ∧ ∀ q ∈ locs, bA B0 s.heap.size q.base := by
  obtain ⟨-, rfl⟩ := hE
  subst hw; subst hv
  obtain ⟨h1, h2, h3, h4, h5⟩ := hW
  exact ⟨fun t ht _ => ⟨⟨u, rfl, hok, by rw [bPost, ht]; exact ⟨h2, h3⟩⟩, h4.F ht⟩, h4.2.2⟩
theorem b_iret {S : Type} {rm : Room} {ok : S → Prop} {rv : S → Option Value} {w1 : S → List va_W} {B0 : List va_W} (hx : p.tables.exec = Jvm.exec) (hb : c.code = cc) (hr : meth.sig.returnType = some .int) (hlk : meth.locks = false) (hE : bE below args s rm D A B0 ok rv w1 Q) (hW : bW D g A s H locs Bs') (u : S) (hw : Bs' = w1 u) (hok : ok u) {v : Int32} (hv : some (.int v) = rv u) (hdg : decode cc pc = .ok (.ireturn, 1)) : W p l e R s m args below meth c H locs rm.cells rm.slots Q (F0 m pc ls [.int v]) := by
  have h := bE_q hE hW u hw hok hv
  rw [hE.1]
  exact W.iret hx hb hr h.1 h.2 hdg hlk
theorem b_zret {S : Type} {rm : Room} {ok : S → Prop} {rv : S → Option Value} {w1 : S → List va_W} {B0 : List va_W} (hx : p.tables.exec = Jvm.exec) (hb : c.code = cc) (hr : meth.sig.returnType = some .boolean) (hlk : meth.locks = false) (hE : bE below args s rm D A B0 ok rv w1 Q) (hW : bW D g A s H locs Bs') (u : S) (hw : Bs' = w1 u) (hok : ok u) {v : Int32} (hv : some (.int v) = rv u) (h01 : (decide (v = 0) || decide (v = 1)) = true) (hdg : decode cc pc = .ok (.ireturn, 1)) : W p l e R s m args below meth c H locs rm.cells rm.slots Q (F0 m pc ls [.int v]) := by
  have h := bE_q hE hW u hw hok hv
  rw [hE.1]
  have hn : narrow .boolean (.int v) = .int v := by
    simp only [Bool.or_eq_true, decide_eq_true_eq] at h01
    rcases h01 with rfl | rfl <;> rfl
  exact W.zret hx hb hr hn h.1 h.2 hdg hlk
theorem b_vret {S : Type} {rm : Room} {ok : S → Prop} {rv : S → Option Value} {w1 : S → List va_W} {B0 : List va_W} (hx : p.tables.exec = Jvm.exec) (hb : c.code = cc) (hr : meth.sig.returnType = none) (hlk : meth.locks = false) (hE : bE below args s rm D A B0 ok rv w1 Q) (hW : bW D g A s H locs Bs') (u : S) (hw : Bs' = w1 u) (hok : ok u) (hv : none = rv u) (hdg : decode cc pc = .ok (.return_, 1)) : W p l e R s m args below meth c H locs rm.cells rm.slots Q (F0 m pc ls []) := by
  have h := bE_q hE hW u hw hok hv
  rw [hE.1]
  exact W.vret hx hb hr h.1 h.2 hdg hlk
theorem b_aret {S : Type} {rm : Room} {ok : S → Prop} {rv : S → Option Value} {w1 : S → List va_W} {B0 : List va_W} {rt : FieldType} (hx : p.tables.exec = Jvm.exec) (hb : c.code = cc) (hr : meth.sig.returnType = some rt) (hrt : (∃ n, rt = .object n) ∨ ∃ t, rt = .array t) (hlk : meth.locks = false) (hE : bE below args s rm D A B0 ok rv w1 Q) (hW : bW D g A s H locs Bs') (u : S) (hw : Bs' = w1 u) (hok : ok u) {v : Value} (hva : v = .null ∨ ∃ a, v = .ref a) (hv : some v = rv u) (hdg : decode cc pc = .ok (.areturn, 1)) : W p l e R s m args below meth c H locs rm.cells rm.slots Q (F0 m pc ls [v]) := by
  have h := bE_q hE hW u hw hok hv
  rw [hE.1]
  exact W.aret hx hb hr hrt hva h.1 h.2 hdg hlk
theorem b_met {S : Type} {y : MethodName} {rm : Room} {maxL : Nat} {ret : Option FieldType} {sz : Nat} {av : List Value} {Bs : List va_W} {ok : S → Prop} {rv : S → Option Value} {w1 : S → List va_W} (hy : plainName y.cls = true) (hav : (lg_sl av).length ≤ maxL)
    (body : ∀ (p : Program) (e : Env) (s : State) (m : MethodId) (args : Array Value) (below : List Frame) (meth : Method) (c : Code) (A : Nat → Prop) (Q : State → Prop) (ls : Array Slot), p.tables.exec = Jvm.exec → c.code = cc → c.maxLocals = maxL → meth.sig.returnType = ret → meth.locks = false → s.vm.findClass y.cls = some m.cls → meth.name = y.name → (∀ w ∈ lw_all, w.before args s = true) → bE below args s rm D A Bs ok rv w1 Q → lv_has ls maxL (lv_args 0 av) → bW D g A s s.heap [] Bs → W p l e rm s m args below meth c s.heap [] 0 0 Q (F0 m 0 ls [])) :
    bMet l y (ws_ y cc maxL ret) rm D g sz av Bs ok rv w1 := by
  refine Met.ofW (cc := cc) (maxL := maxL) (ret := ret) hy rfl ?_
  intro p e s m args below meth c s₁ B hml hv
  obtain ⟨rfl, hsz, hP, hK, hD0, hX⟩ := hv
  subst hsz
  have hts := atoms_spec (ws := ws_ y cc maxL ret) B.pre
  have hl := lv_entry av hav
  have hA : ∀ q : Nat, s.heap.size ≤ q → bA Bs s.heap.size q := fun q h => Or.inr h
  have k := body p e s m av.toArray below meth c _ _ ((lg_sl av ++ List.replicate (maxL - (lg_sl av).length) Slot.unset).toArray) B.exec B.bytes hml B.returns B.notSynchronized (findClass_of_methodNamed B.named) (name_of_methodNamed B.named B.method).1 (fun w h => hts w (List.mem_cons_of_mem _ h)) ⟨rfl, rfl⟩ hl ⟨hK, hP, hD0.self, va_S.rf, hA, hX⟩
  rw [lg_entry_eq]
  exact k
end BRW
