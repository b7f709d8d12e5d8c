/-! TEXTS that the component makes: printed by gen/all.py -/
set_option maxRecDepth 100000
abbrev DT : Type := Nat × Nat × Nat × (Nat → Int32) × Int32 × Int32
/-- a String: its address, that of its bytes, how many, the bytes, hash, hashIsZero -/
def dE (g : Nat → ClassId) (x : DT) : va_W := [(x.1, .inr (14, [.ref x.2.1, .int 0, .int x.2.2.2.2.1, .int x.2.2.2.2.2])), (x.2.1, .inl (g 2, x.2.2.1, .inl x.2.2.2.1))]
def dW (g : Nat → ClassId) (D : Option DT) : va_W := match D with
  | none => []
  | some x => dE g x
/-- a StringBuilder: its address, that of its bytes, their room, the bytes, how many letters -/
def uE (g : Nat → ClassId) (q b n : Nat) (f : Nat → Int32) (c : Int32) : va_W := [(q, .inr (15, [.ref b, .int 0, .int 0, .int c])), (b, .inl (g 2, n, .inl f))]
def q_od (D : Option DT) (A : Prop) (B : Nat → Nat → Nat → (Nat → Int32) → Int32 → Int32 → Prop) : Prop := match D with
  | none => A
  | some x => B x.1 x.2.1 x.2.2.1 x.2.2.2.1 x.2.2.2.2.1 x.2.2.2.2.2
theorem q_odn {A : Prop} {B : Nat → Nat → Nat → (Nat → Int32) → Int32 → Int32 → Prop} (h : q_od none A B) : A := h
theorem q_ods {q b n : Nat} {f : Nat → Int32} {h1 h2 : Int32} {A : Prop} {B : Nat → Nat → Nat → (Nat → Int32) → Int32 → Int32 → Prop} (h : q_od (some (q, b, n, f, h1, h2)) A B) : B q b n f h1 h2 := h
def bFit (f : Nat → Int32) (n : Nat) : Bool := (List.range n).all fun i => fits .byte (.int (f i))
theorem bFit_1 {f : Nat → Int32} {n : Nat} (h : bFit f n = true) : ∀ i, i < n → fits .byte (.int (f i)) = true := fun i hi => List.all_eq_true.mp h i (List.mem_range.mpr hi)
def o_kb (k : Int32) (n : Nat) : Bool := !(decide (k < 0)) && decide (ix k ≤ n)
theorem o_kb1 {k : Int32} {n : Nat} (h : o_kb k n = true) : ¬ k < 0 ∧ ix k ≤ n := by simpa [o_kb] using h
section TRW
variable {p : Program} {l : Launch} {e : Env} {R : Room} {s : State} {m : MethodId} {args : Array Value} {below : List Frame} {meth : Method} {c : Code} {H : Heap} {locs : List Loc} {cells slots : Nat} {Q : State → Prop}
variable {cc : ByteArray} {pc : Nat} {ls : Array Slot} {rest : List Value} {D : va_G} {g : Nat → ClassId} {A : Nat → Prop} {a : Nat} {Bs Bs' : List va_W} {w w' : va_W}
theorem b_bald (hx : p.tables.exec = Jvm.exec) (hb : c.code = cc) (hW : bW D g A s H locs Bs) (pp q : Nat) (hp : Bs[pp]? = some w) {n : Nat} {f : Nat → Int32} (hq : w[q]? = some (a, .inl (g 2, n, .inl f))) {i : Int32} (hin : inB i n = true) (hdg : decode cc pc = .ok (.baload, 1))
    (kk : W p l e R s m args below meth c H locs cells slots Q (F0 m (pc + 1) ls (.int (f (ix i)) :: rest))) : W p l e R s m args below meth c H locs cells slots Q (F0 m pc ls (.int i :: .ref a :: rest)) := by
  obtain ⟨k, hk, -⟩ := b_loc Bs pp q w _ hp hq
  exact va_bald hx hb hW.1 hW.2.1 k 2 hk rfl (inB_in hin) hdg kk
theorem b_bast (hx : p.tables.exec = Jvm.exec) (hb : c.code = cc) (hW : bW D g A s H locs Bs) (pp q : Nat) (hp : Bs[pp]? = some w) {n : Nat} {f : Nat → Int32} (hq : w[q]? = some (a, .inl (g 2, n, .inl f))) {i x : Int32} (hs : w.set q (a, .inl (g 2, n, .inl (upd f (ix i) (vp_nar .byte x)))) = w') (hB : Bs.set pp w' = Bs') (hin : inB i n = true) (hdg : decode cc pc = .ok (.bastore, 1))
    (kk : ∀ (H : Heap) (locs : List Loc), bW D g A s H locs Bs' → W p l e R s m args below meth c H locs cells slots Q (F0 m (pc + 1) ls rest)) : W p l e R s m args below meth c H locs cells slots Q (F0 m pc ls (.int x :: .int i :: .ref a :: rest)) := by
  obtain ⟨k, hk, hset⟩ := b_loc Bs pp q w _ hp hq
  obtain ⟨h1, h2, h3, h4, h5⟩ := hW
  refine va_bast hx hb h1 h2 h3 h4 k 2 hk rfl (inB_in hin) hdg fun H1 l1 hP hD hS => ?_
  rw [hset, hs, hB] at hP hD
  exact kk H1 l1 ⟨h1, hP, hD, hS, h5⟩
theorem b_cpB (hx : p.tables.exec = Jvm.exec) (hb : c.code = cc) (hml : c.maxLocals = ls.size) {own : String} {index : Nat} (hown : s.vm.findClass own = some m.cls) (hlink : (Cond.methodLink own index arraycopyName).before args s = true) (hnat : (Cond.native arraycopyName).before args s = true) (hstat : (Cond.static arraycopyName).before args s = true) (hini : (Cond.initialized "java/lang/System").before args s = true)
    (hW : bW D g A s H locs Bs) (pp q p2 q2 : Nat) {w0 : va_W} {a0 n0 n1 : Nat} {f h : Nat → Int32} (hp0 : Bs[pp]? = some w0) (hq0 : w0[q]? = some (a0, .inl (g 2, n0, .inl f))) (hp : Bs[p2]? = some w) (hq : w[q2]? = some (a, .inl (g 2, n1, .inl h)))
    {sp dp n : Int32} (hs : w.set q2 (a, .inl (g 2, n1, .inl (va_cpy f h (ix sp) (ix dp) (ix n)))) = w') (hB : Bs.set p2 w' = Bs') (h1 : ¬ sp < 0) (h2 : ¬ dp < 0) (h3 : ¬ n < 0) (h4 : ix sp + ix n ≤ n0) (h5 : ix dp + ix n ≤ n1) (hfit : bFit f n0 = true)
    (hframes : 1 ≤ R.frames) (hlocals : (rest.map fun v => v.category).sum + (nativeFrameWords "java/lang/System" "arraycopy" 5 + 11) ≤ R.locals) (hdg : decode cc pc = .ok (.invokestatic index, 3))
    (kk : ∀ (H : Heap) (locs : List Loc), bW D g A s H locs Bs' → W p l e R s m args below meth c H locs cells slots Q (F0 m (pc + 3) ls rest)) : W p l e R s m args below meth c H locs cells slots Q (F0 m pc ls (.int n :: .int dp :: .ref a :: .int sp :: .ref a0 :: rest)) := by
  obtain ⟨k0, hk0, -⟩ := b_loc Bs pp q w0 _ hp0 hq0
  obtain ⟨k, hk, hset⟩ := b_loc Bs p2 q2 w _ hp hq
  obtain ⟨g1, g2, g3, g4, g5⟩ := hW
  refine va_copyi hx hb hml hown hlink hnat hstat hini g1 g2 g3 g4 k0 k 2 2 (ty := .byte) hk0 hk rfl rfl rfl h1 h2 h3 h4 h5 (fun i hi => bFit_1 hfit _ (Nat.lt_of_lt_of_le (Nat.add_lt_add_left hi _) h4)) hframes hlocals hdg fun H1 l1 hP hD hS => ?_
  rw [hset, hs, hB] at hP hD
  exact kk H1 l1 ⟨g1, hP, hD, hS, g5⟩
/-- clone() of bytes -/
theorem b_cloneB (hx : p.tables.exec = Jvm.exec) (hb : c.code = cc) (hml : c.maxLocals = ls.size) {own : String} {index : Nat} (hts : ∀ w ∈ lw_all, w.before args s = true) (hown : s.vm.findClass own = some m.cls) (hlink : (Cond.methodLink own index ⟨"[B", "clone", "()Ljava/lang/Object;"⟩).before args s = true)
    (hW : bW D g A s H locs Bs) (pp q : Nat) (hp : Bs[pp]? = some w) {n : Nat} {f : Nat → Int32} (hq : w[q]? = some (a, .inl (g 2, n, .inl f))) (hfit : bFit f n = true)
    (hframes : 1 ≤ R.frames) (hlocals : (rest.map fun v => v.category).sum + 14 ≤ R.locals) (hcells : cells + 1 ≤ R.cells) (hslots : slots + n ≤ R.slots) (hdg : decode cc pc = .ok (.invokevirtual index, 3))
    (kk : ∀ (z : Nat) (H : Heap), bW D g A s H locs (Bs ++ [[(z, .inl (g 2, n, .inl f))]]) → W p l e R s m args below meth c H locs (cells + 1) (slots + n) Q (F0 m (pc + 3) ls (.ref z :: rest))) : W p l e R s m args below meth c H locs cells slots Q (F0 m pc ls (.ref a :: rest)) := by
  obtain ⟨k, hk, -⟩ := b_loc Bs pp q w _ hp hq
  have hcl : va_Nw (.castable "[B" "java/lang/Cloneable") s := hW.2.2.2.2.2.2.2.1 _ (List.mem_of_getElem? (i := 13) rfl)
  obtain ⟨h1, h2, h3, h4, h5, h6⟩ := hW
  refine va_clone hx hb hml hown hlink (hts _ q841) (hts _ q842) (hts _ q843) (hts _ q844) hcl h1 h2 h3 h4 h5 k 2 (ty := .byte) hk rfl (va_nm_byte (h1.2 2 _ rfl).2) (fun i v hv => ?_) hframes hlocals hcells hslots hdg fun z H1 hK hP hD hS => ?_
  · have hi : i < n := by
      have h7 := (Array.getElem?_eq_some_iff.mp hv).1
      have h8 : (vp_cell (g 2) (n, .inl f)).slots.size = n := arrV_size _ _ _
      omega
    have h9 : (vp_cell (g 2) (n, .inl f)).slots[i]? = some (.int (f i)) := arrV_read _ _ hi
    rw [h9] at hv
    cases hv
    exact bFit_1 hfit i hi
  · exact kk z H1 ⟨h1, by rw [List.flatten_append]; simpa using hP, by rw [List.flatten_append]; simpa using hD, hS, h5, h6⟩
theorem b_castB (hx : p.tables.exec = Jvm.exec) (hb : c.code = cc) {own : String} {index : Nat} (hown : s.vm.findClass own = some m.cls) (hlink : (Cond.classLink own index "[B").before args s = true) (hW : bW D g A s H locs Bs) (pp : Nat) {x : vp_A} {w1 : va_W} (hp : Bs[pp]? = some ((a, .inl (g 2, x)) :: w1)) (hq : (((a, .inl (g 2, x)) :: w1 : va_W))[0]? = some (a, .inl (g 2, x))) (hdg : decode cc pc = .ok (.checkcast index, 3))
    (kk : W p l e R s m args below meth c H locs cells slots Q (F0 m (pc + 3) ls (.ref a :: rest))) : W p l e R s m args below meth c H locs cells slots Q (F0 m pc ls (.ref a :: rest)) := by
  obtain ⟨k, hk, -⟩ := b_loc Bs pp 0 _ _ hp hq
  exact va_castA hx hb hown hlink hW.2.1 k hk (r_nm hW 0) hdg kk
theorem b_castD (hx : p.tables.exec = Jvm.exec) (hb : c.code = cc) {own : String} {index : Nat} (hown : s.vm.findClass own = some m.cls) (hlink : (Cond.classLink own index "[B").before args s = true) (hW : bW D g A s H locs Bs) (pp : Nat) {q b n : Nat} {f : Nat → Int32} {h hz : Int32} (hp : Bs[pp]? = some (dE g (q, b, n, f, h, hz))) (hdg : decode cc pc = .ok (.checkcast index, 3))
    (kk : W p l e R s m args below meth c H locs cells slots Q (F0 m (pc + 3) ls (.ref b :: rest))) : W p l e R s m args below meth c H locs cells slots Q (F0 m pc ls (.ref b :: rest)) := by
  obtain ⟨k, hk, -⟩ := b_loc Bs pp 1 _ _ hp rfl
  exact va_castA hx hb hown hlink hW.2.1 k hk (r_nm hW 0) hdg kk
/-- a private method of the class above -/
theorem t_cwU {own C : String} {index maxL mc ms : Nat} {y : MethodName} {bytes : ByteArray} {ret : Option FieldType} {rm : Room} (n : Nat) (ht : ∀ w ∈ lw_all, w.before args s = true) (h1 : Cond.methodLink own index y ∈ lw_all) (h2 : Cond.sameMethod y.cls y.cls y.name y.desc ∈ lw_all) (hsel : (Cond.selects C y y).before args s = true) (h4 : Cond.instanceMethod y ∈ lw_all) (h5 : Cond.initialized y.cls ∈ lw_all) (h6 : Cond.code y bytes maxL ret ∈ lw_all) (hrc : rm.cells = mc) (hrs : rm.slots = ms)
    (hd : y.cls ≠ "java/lang/invoke/MethodHandle" ∧ y.cls ≠ "java/lang/invoke/VarHandle" ∧ (parseMethodDescriptor y.desc).map (fun d => d.parameters.length) = some n) (hR : rm.frames + 1 ≤ R.frames ∧ 8 + (maxL + 11) + rm.locals ≤ R.locals) : va_CU R s args own C y.cls index y y bytes maxL ret (ws_ y bytes maxL ret) rm mc ms n := by
  refine ⟨⟨hrc, hrs, hR.1, hR.2, pay_in ht (lw_meth h6), List.mem_cons_self⟩, ht _ h6, ht _ h5, ⟨hd.1, hd.2.1⟩, fun sig h => ?_, ht _ h1, ht _ h2, va_Decl.of (ht _ h4) (ht _ h6), hsel, ht _ h4⟩
  have h3 := hd.2.2
  rw [h] at h3
  exact (Option.some.inj h3).symm
/-- an object of the world is no constant text -/
theorem b_dne (hW : bW D g A s H locs Bs) (pp q : Nat) (hp : Bs[pp]? = some w) {x : va_E} (hq : w[q]? = some (a, x)) {i : Nat} (hi : i < 7) : ¬ a = g (100 + i) := by
  obtain ⟨k, hk, -⟩ := b_loc Bs pp q w _ hp hq
  have h1 := hW.2.2.1.2 k _ hk
  obtain ⟨cell, -, -, -, h2⟩ := ((b_eK hW).1.1 i hi).1
  intro e
  rw [e] at h1
  exact h2 h1
end TRW
/-- what a builder's growth costs -/
def eC (n : Nat) (x : Int32) : Nat := if x - nI n >>> (0 &&& 31) ≤ 0 then 0 else 1
def eS (n : Nat) (x : Int32) : Nat := if x - nI n >>> (0 &&& 31) ≤ 0 then 0 else 2 * n + 2
def o_cpy (sp dp n : Int32) (n0 n1 : Nat) : Bool := !(decide (sp < 0)) && !(decide (dp < 0)) && !(decide (n < 0)) && decide (ix sp + ix n ≤ n0) && decide (ix dp + ix n ≤ n1)
theorem o_cpy1 {sp dp n : Int32} {n0 n1 : Nat} (h : o_cpy sp dp n n0 n1 = true) : ¬ sp < 0 ∧ ¬ dp < 0 ∧ ¬ n < 0 ∧ ix sp + ix n ≤ n0 ∧ ix dp + ix n ≤ n1 := by
  simp only [o_cpy, Bool.and_eq_true, Bool.not_eq_true', decide_eq_false_iff_not, decide_eq_true_eq] at h
  exact ⟨h.1.1.1.1, h.1.1.1.2, h.1.1.2, h.1.2, h.2⟩
def rSt (a b : Int32) : Bool := decide (a = b)
abbrev rm_J12_isLatin1 : Room := { frames := 0, cells := 0, slots := 0, locals := 0 }
set_option maxHeartbeats 4000000 in
set_option maxRecDepth 100000 in
theorem m_J12_isLatin1 (l : Launch) (D : va_G) (g : Nat → ClassId) (sz : Nat) (q b : Nat) (n : Nat) (f : Nat → Int32) (ct : Int32)  : bMet (S := Unit) l yJ12_isLatin1 (ws_ yJ12_isLatin1 cJ12_isLatin1 1 (some .boolean)) rm_J12_isLatin1 D g sz [.ref q] [uE g q b n f ct] (fun _ => True) (fun _ => some (.int 1)) (fun _ => [uE g q b n f ct]) := by
  refine b_met (by decide) (Nat.le_of_ble_eq_true rfl) ?_
  intro p e s m args below meth c A Q ls hx hb hml hr hlk hown hname hts hE hl hW
  revert hW; generalize s.heap = H; intro hW
  have hl : lv_has ls 1 [(0, .ref q)] := hl
  refine va_gets hx hb (b_eK hW).2.2.1 hW.2.2.2.1 hown (hts _ q786) (fun _ h => h) dJ12_isLatin1_0 ?_
  refine lv_if_eq (tgt := 17) hx hb dJ12_isLatin1_3 (by decide) (fun hc => absurd hc (by decide)) (fun hc => ?_)
  refine lv_aload_n hx hb dJ12_isLatin1_6 rfl (lv_at hl 0 rfl) ?_
  have hW : bW D g A s H _ [[(q, .inr (15, [.ref b, .int 0, .int 0, .int ct]))], [(b, .inl (g 2, n, .inl f))]] := hW
  refine b_get hx hb hts in_J13 hown hW 0 0 15 1 rfl rfl rfl (by decide) ⟨rfl, rfl, rfl⟩ (hts _ q801) rfl dJ12_isLatin1_7 ?_
  refine lv_if_ne (tgt := 17) hx hb dJ12_isLatin1_10 (by decide) (fun hc => absurd hc (by decide)) (fun hc => ?_)
  refine lv_iconst (v := 1) hx hb dJ12_isLatin1_13 (by decide) ?_
  refine lv_goto (tgt := 18) hx hb dJ12_isLatin1_14 (by decide) ?_
  have hW : bW D g A s H _ [uE g q b n f ct] := hW
  exact b_zret hx hb hr hlk hE hW () rfl trivial rfl (by decide) dJ12_isLatin1_18
abbrev rm_J12_getValue : Room := { frames := 0, cells := 0, slots := 0, locals := 0 }
set_option maxHeartbeats 4000000 in
set_option maxRecDepth 100000 in
theorem m_J12_getValue (l : Launch) (D : va_G) (g : Nat → ClassId) (sz : Nat) (q b : Nat) (n : Nat) (f : Nat → Int32) (ct : Int32)  : bMet (S := Unit) l yJ12_getValue (ws_ yJ12_getValue cJ12_getValue 1 (some (.array .byte))) rm_J12_getValue D g sz [.ref q] [uE g q b n f ct] (fun _ => True) (fun _ => some (.ref b)) (fun _ => [uE g q b n f ct]) := by
  refine b_met (by decide) (Nat.le_of_ble_eq_true rfl) ?_
  intro p e s m args below meth c A Q ls hx hb hml hr hlk hown hname hts hE hl hW
  revert hW; generalize s.heap = H; intro hW
  have hl : lv_has ls 1 [(0, .ref q)] := hl
  refine lv_aload_n hx hb dJ12_getValue_0 rfl (lv_at hl 0 rfl) ?_
  have hW : bW D g A s H _ [[(q, .inr (15, [.ref b, .int 0, .int 0, .int ct]))], [(b, .inl (g 2, n, .inl f))]] := hW
  refine b_get hx hb hts in_J13 hown hW 0 0 15 0 rfl rfl rfl (by decide) ⟨rfl, rfl, rfl⟩ (hts _ q800) rfl dJ12_getValue_1 ?_
  have hW : bW D g A s H _ [uE g q b n f ct] := hW
  exact b_aret hx hb hr (Or.inr ⟨_, rfl⟩) hlk hE hW () rfl trivial (Or.inr ⟨_, rfl⟩) rfl dJ12_getValue_4
abbrev rm_J12_length : Room := { frames := 0, cells := 0, slots := 0, locals := 0 }
set_option maxHeartbeats 4000000 in
set_option maxRecDepth 100000 in
theorem m_J12_length (l : Launch) (D : va_G) (g : Nat → ClassId) (sz : Nat) (q b : Nat) (n : Nat) (f : Nat → Int32) (ct : Int32)  : bMet (S := Unit) l yJ12_length (ws_ yJ12_length cJ12_length 1 (some .int)) rm_J12_length D g sz [.ref q] [uE g q b n f ct] (fun _ => True) (fun _ => some (.int ct)) (fun _ => [uE g q b n f ct]) := by
  refine b_met (by decide) (Nat.le_of_ble_eq_true rfl) ?_
  intro p e s m args below meth c A Q ls hx hb hml hr hlk hown hname hts hE hl hW
  revert hW; generalize s.heap = H; intro hW
  have hl : lv_has ls 1 [(0, .ref q)] := hl
  refine lv_aload_n hx hb dJ12_length_0 rfl (lv_at hl 0 rfl) ?_
  have hW : bW D g A s H _ [[(q, .inr (15, [.ref b, .int 0, .int 0, .int ct]))], [(b, .inl (g 2, n, .inl f))]] := hW
  refine b_get hx hb hts in_J13 hown hW 0 0 15 3 rfl rfl rfl (by decide) ⟨rfl, rfl, rfl⟩ (hts _ q803) rfl dJ12_length_1 ?_
  have hW : bW D g A s H _ [uE g q b n f ct] := hW
  exact b_iret hx hb hr hlk hE hW () rfl trivial rfl dJ12_length_4
abbrev rm_J13_length : Room := { frames := 1, cells := 0, slots := 0, locals := 20 }
set_option maxHeartbeats 4000000 in
set_option maxRecDepth 100000 in
theorem m_J13_length (l : Launch) (D : va_G) (g : Nat → ClassId) (sz : Nat) (q b : Nat) (n : Nat) (f : Nat → Int32) (ct : Int32)  : bMet (S := Unit) l yJ13_length (ws_ yJ13_length cJ13_length 1 (some .int)) rm_J13_length D g sz [.ref q] [uE g q b n f ct] (fun _ => True) (fun _ => some (.int ct)) (fun _ => [uE g q b n f ct]) := by
  refine b_met (by decide) (Nat.le_of_ble_eq_true rfl) ?_
  intro p e s m args below meth c A Q ls hx hb hml hr hlk hown hname hts hE hl hW
  revert hW; generalize s.heap = H; intro hW
  have hl : lv_has ls 1 [(0, .ref q)] := hl
  refine lv_aload_n hx hb dJ13_length_0 rfl (lv_at hl 0 rfl) ?_
  have hp1 : List.Perm ([uE g q b n f ct] : List va_W) ([uE g q b n f ct] ++ []) := b_perm [0] [] 1 rfl rfl rfl rfl
  refine b_call0 ⟨rfl, rfl⟩ (va_runSU (As := []) (rest := []) ((hW.1.1 15 _ rfl).2) ⟨hx, hb, hml, hown, hts⟩ (m_J12_length l D g H.size q b n f ct) (va_cwSU (y := ⟨"java/lang/AbstractStringBuilder", "length", "()I"⟩) 0 hts (lw_SU q927 q923 q812 q922 q101 q928) rfl rfl rfl (by decide +kernel) ⟨Nat.le_of_ble_eq_true rfl, Nat.le_of_ble_eq_true rfl⟩) (b_preV (pp := 0) (q := 0) hW hp1 rfl rfl rfl) rfl rfl hl.1 rfl (by exact lv_room (Nat.le_of_ble_eq_true rfl)) dJ13_length_1 ⟨Nat.le_of_ble_eq_true rfl, Nat.le_of_ble_eq_true rfl⟩) hW hp1 (fun _ _ H locs hW => ?_)
  have hW : bW D g A s H locs [uE g q b n f ct] := hW
  exact b_iret hx hb hr hlk hE hW () rfl trivial rfl dJ13_length_4
def f_J17_canEncode (x1 : Int32) : Option Int32 :=
 (if (255 : Int32) < x1 then
 some 0
 else
 some 1)
abbrev rm_J17_canEncode : Room := { frames := 0, cells := 0, slots := 0, locals := 0 }
set_option maxHeartbeats 4000000 in
set_option maxRecDepth 100000 in
theorem m_J17_canEncode (l : Launch) (D : va_G) (g : Nat → ClassId) (sz : Nat)  (x1 : Int32) (rO : Int32) (hf : f_J17_canEncode x1 = some rO) : bMet (S := Unit) l yJ17_canEncode (ws_ yJ17_canEncode cJ17_canEncode 1 (some .boolean)) rm_J17_canEncode D g sz [.int x1] [] (fun _ => True) (fun _ => some (.int rO)) (fun _ => []) := by
  refine b_met (by decide) (Nat.le_of_ble_eq_true rfl) ?_
  intro p e s m args below meth c A Q ls hx hb hml hr hlk hown hname hts hE hl hW
  revert hW; generalize s.heap = H; intro hW
  have hl : lv_has ls 1 [(0, .int x1)] := hl
  rw [f_J17_canEncode] at hf
  refine lv_iload_n hx hb dJ17_canEncode_0 rfl (lv_at hl 0 rfl) ?_
  refine lv_sipush (v := 255) hx hb dJ17_canEncode_1 (by decide) ?_
  refine lv_icmp_gt (tgt := 11) hx hb dJ17_canEncode_4 (by decide) (fun c1 => ?_) (fun c1 => ?_)
  · have hf := o_t hf c1
    refine lv_iconst (v := 0) hx hb dJ17_canEncode_11 (by decide) ?_
    cases hf
    exact b_zret hx hb hr hlk hE hW () rfl trivial rfl (by decide) dJ17_canEncode_12
  · have hf := o_f hf c1
    refine lv_iconst (v := 1) hx hb dJ17_canEncode_7 (by decide) ?_
    refine lv_goto (tgt := 12) hx hb dJ17_canEncode_8 (by decide) ?_
    cases hf
    exact b_zret hx hb hr hlk hE hW () rfl trivial rfl (by decide) dJ17_canEncode_12
def f_J15_newLength (x1 : Int32) (x2 : Int32) (x3 : Int32) : Option Int32 :=
 o_lt ((if x2 < x3 then x3 else x2)) fun (v1 : Int32) =>
 o_lt (x1 + v1) fun (v2 : Int32) =>
 (if v2 ≤ 0 then
 none
 else
 (if (2147483639 : Int32) < v2 then
 none
 else
 some v2))
abbrev rm_J15_newLength : Room := { frames := 1, cells := 0, slots := 0, locals := 24 }
set_option maxHeartbeats 4000000 in
set_option maxRecDepth 100000 in
theorem m_J15_newLength (l : Launch) (D : va_G) (g : Nat → ClassId) (sz : Nat)  (x1 : Int32) (x2 : Int32) (x3 : Int32) (rO : Int32) (hf : f_J15_newLength x1 x2 x3 = some rO) : bMet (S := Unit) l yJ15_newLength (ws_ yJ15_newLength cJ15_newLength 4 (some .int)) rm_J15_newLength D g sz [.int x1, .int x2, .int x3] [] (fun _ => True) (fun _ => some (.int rO)) (fun _ => []) := by
  refine b_met (by decide) (Nat.le_of_ble_eq_true rfl) ?_
  intro p e s m args below meth c A Q ls hx hb hml hr hlk hown hname hts hE hl hW
  revert hW; generalize s.heap = H; intro hW
  have hl : lv_has ls 4 [(0, .int x1), (1, .int x2), (2, .int x3)] := hl
  rw [f_J15_newLength] at hf
  refine lv_iload_n hx hb dJ15_newLength_0 rfl (lv_at hl 0 rfl) ?_
  refine lv_iload_n hx hb dJ15_newLength_1 rfl (lv_at hl 1 rfl) ?_
  refine lv_iload_n hx hb dJ15_newLength_2 rfl (lv_at hl 2 rfl) ?_
  refine va_mmax hx hb (by rw [hml]; exact hl.1.symm) hown (hts _ q831) (hts _ q560) (hts _ q92) (hts _ q561) (Nat.le_of_ble_eq_true rfl) (Nat.le_of_ble_eq_true rfl) (Nat.le_of_ble_eq_true rfl) (Nat.le_of_ble_eq_true rfl) dJ15_newLength_3 ?_
  obtain ⟨v1, ev1, hf⟩ := o_ls hf
  refine b_topi ev1 ?_
  refine lv_iadd hx hb dJ15_newLength_6 ?_
  obtain ⟨v2, ev2, hf⟩ := o_ls hf
  refine b_topi ev2 ?_
  refine lv_istore_n (lv' := [(3, .int v2), (0, .int x1), (1, .int x2), (2, .int x3)]) hx hb dJ15_newLength_7 rfl hl (by decide) rfl (fun ls hl => ?_)
  refine lv_iconst (v := 0) hx hb dJ15_newLength_8 (by decide) ?_
  refine lv_iload_n hx hb dJ15_newLength_9 rfl (lv_at hl 0 rfl) ?_
  refine lv_icmp_ge (tgt := 21) hx hb dJ15_newLength_10 (by decide) (fun c3 => ?_) (fun c3 => ?_)
  · have hf := o_t hf c3
    cases hf
  · have hf := o_f hf c3
    refine lv_iload_n hx hb dJ15_newLength_13 rfl (lv_at hl 0 rfl) ?_
    refine lv_ldc (v := 2147483639) hx hb hown (hts _ q832) dJ15_newLength_14 ?_
    refine lv_icmp_gt (tgt := 21) hx hb dJ15_newLength_16 (by decide) (fun c4 => ?_) (fun c4 => ?_)
    · have hf := o_t hf c4
      cases hf
    · have hf := o_f hf c4
      refine lv_iload_n hx hb dJ15_newLength_19 rfl (lv_at hl 0 rfl) ?_
      cases hf
      exact b_iret hx hb hr hlk hE hW () rfl trivial rfl dJ15_newLength_20
def f_J12_newCapacity (n : Nat) (f : Nat → Int32) (ct : Int32) (x1 : Int32) : Option Int32 :=
 o_lt (nI n) fun (v1 : Int32) =>
 o_lt (x1 <<< (0 &&& 31)) fun (v2 : Int32) =>
 o_lt (v2 - v1) fun (v3 : Int32) =>
 o_b1 (f_J15_newLength v1 v3 (v1 + ((2 : Int32) <<< (0 &&& 31)))) fun (r4 : Int32) =>
 (if r4 = 2147483647 then
 none
 else
 some (r4 >>> (0 &&& 31)))
abbrev rm_J12_newCapacity : Room := { frames := 2, cells := 0, slots := 0, locals := 47 }
set_option maxHeartbeats 4000000 in
set_option maxRecDepth 100000 in
theorem m_J12_newCapacity (l : Launch) (D : va_G) (g : Nat → ClassId) (sz : Nat) (q b : Nat) (n : Nat) (f : Nat → Int32) (ct : Int32) (x1 : Int32) (rO : Int32) (hf : f_J12_newCapacity n f ct x1 = some rO) : bMet (S := Unit) l yJ12_newCapacity (ws_ yJ12_newCapacity cJ12_newCapacity 6 (some .int)) rm_J12_newCapacity D g sz [.ref q, .int x1] [uE g q b n f ct] (fun _ => True) (fun _ => some (.int rO)) (fun _ => [uE g q b n f ct]) := by
  refine b_met (by decide) (Nat.le_of_ble_eq_true rfl) ?_
  intro p e s m args below meth c A Q ls hx hb hml hr hlk hown hname hts hE hl hW
  revert hW; generalize s.heap = H; intro hW
  have hl : lv_has ls 6 [(0, .ref q), (1, .int x1)] := hl
  rw [f_J12_newCapacity] at hf
  refine lv_aload_n hx hb dJ12_newCapacity_0 rfl (lv_at hl 0 rfl) ?_
  have hW : bW D g A s H _ [[(q, .inr (15, [.ref b, .int 0, .int 0, .int ct]))], [(b, .inl (g 2, n, .inl f))]] := hW
  refine b_get hx hb hts in_J13 hown hW 0 0 15 0 rfl rfl rfl (by decide) ⟨rfl, rfl, rfl⟩ (hts _ q800) rfl dJ12_newCapacity_1 ?_
  refine b_alen hx hb hW 1 0 2 rfl rfl rfl (v := nI n) rfl dJ12_newCapacity_4 ?_
  obtain ⟨v1, ev1, hf⟩ := o_ls hf
  refine b_topi ev1 ?_
  refine lv_istore_n (lv' := [(2, .int v1), (0, .ref q), (1, .int x1)]) hx hb dJ12_newCapacity_5 rfl hl (by decide) rfl (fun ls hl => ?_)
  refine lv_iload_n hx hb dJ12_newCapacity_6 rfl (lv_at hl 2 rfl) ?_
  refine lv_aload_n hx hb dJ12_newCapacity_7 rfl (lv_at hl 1 rfl) ?_
  refine b_get hx hb hts in_J13 hown hW 0 0 15 1 rfl rfl rfl (by decide) ⟨rfl, rfl, rfl⟩ (hts _ q801) rfl dJ12_newCapacity_8 ?_
  refine lv_ishl hx hb dJ12_newCapacity_11 ?_
  obtain ⟨v2, ev2, hf⟩ := o_ls hf
  refine b_topi ev2 ?_
  refine lv_istore_n (lv' := [(3, .int v2), (2, .int v1), (0, .ref q), (1, .int x1)]) hx hb dJ12_newCapacity_12 rfl hl (by decide) rfl (fun ls hl => ?_)
  refine lv_iload_n hx hb dJ12_newCapacity_13 rfl (lv_at hl 0 rfl) ?_
  refine lv_iload_n hx hb dJ12_newCapacity_14 rfl (lv_at hl 1 rfl) ?_
  refine lv_isub hx hb dJ12_newCapacity_15 ?_
  obtain ⟨v3, ev3, hf⟩ := o_ls hf
  refine b_topi ev3 ?_
  refine lv_istore (lv' := [(4, .int v3), (3, .int v2), (2, .int v1), (0, .ref q), (1, .int x1)]) hx hb dJ12_newCapacity_16 hl (by decide) rfl (fun ls hl => ?_)
  refine lv_iload_n hx hb dJ12_newCapacity_18 rfl (lv_at hl 2 rfl) ?_
  refine lv_iload hx hb dJ12_newCapacity_19 (lv_at hl 0 rfl) ?_
  refine lv_iload_n hx hb dJ12_newCapacity_21 rfl (lv_at hl 2 rfl) ?_
  refine lv_iconst (v := 2) hx hb dJ12_newCapacity_22 (by decide) ?_
  refine lv_aload_n hx hb dJ12_newCapacity_23 rfl (lv_at hl 3 rfl) ?_
  refine b_get hx hb hts in_J13 hown hW 0 0 15 1 rfl rfl rfl (by decide) ⟨rfl, rfl, rfl⟩ (hts _ q801) rfl dJ12_newCapacity_24 ?_
  refine lv_ishl hx hb dJ12_newCapacity_27 ?_
  refine lv_iadd hx hb dJ12_newCapacity_28 ?_
  obtain ⟨r4, hc4, hf⟩ := o_b1s hf
  have hp4 : List.Perm (α := va_W) [[(q, .inr (15, [.ref b, .int 0, .int 0, .int ct]))], [(b, .inl (g 2, n, .inl f))]] ([] ++ [[(q, .inr (15, [.ref b, .int 0, .int 0, .int ct]))], [(b, .inl (g 2, n, .inl f))]]) := b_perm [] [0, 1] 2 rfl rfl rfl rfl
  refine b_call0 ⟨rfl, rfl⟩ (va_runS (As := [.int v1, .int v3, .int (v1 + ((2 : Int32) <<< (0 &&& 31)))]) (rest := []) ⟨hx, hb, hml, hown, hts⟩ (m_J15_newLength l D g H.size v1 v3 (v1 + ((2 : Int32) <<< (0 &&& 31))) r4 hc4) (va_cwS 3 hts (lw_S q828 q829 q104 q830) rfl rfl rfl (by decide +kernel) ⟨Nat.le_of_ble_eq_true rfl, Nat.le_of_ble_eq_true rfl⟩) (b_preS hW hp4) rfl rfl hl.1 rfl (lv_room (Nat.le_of_ble_eq_true rfl)) dJ12_newCapacity_29 ⟨Nat.le_of_ble_eq_true rfl, Nat.le_of_ble_eq_true rfl⟩) hW hp4 (fun _ _ H locs hW => ?_)
  have hW : bW D g A s H locs [[(q, .inr (15, [.ref b, .int 0, .int 0, .int ct]))], [(b, .inl (g 2, n, .inl f))]] := hW
  refine lv_istore (lv' := [(5, .int r4), (4, .int v3), (3, .int v2), (2, .int v1), (0, .ref q), (1, .int x1)]) hx hb dJ12_newCapacity_32 hl (by decide) rfl (fun ls hl => ?_)
  refine lv_iload hx hb dJ12_newCapacity_34 (lv_at hl 0 rfl) ?_
  refine lv_ldc (v := 2147483647) hx hb hown (hts _ q836) dJ12_newCapacity_36 ?_
  refine lv_icmp_ne (tgt := 51) hx hb dJ12_newCapacity_38 (by decide) (fun c5 => ?_) (fun c5 => ?_)
  · have hf := o_f hf c5
    refine lv_iload hx hb dJ12_newCapacity_51 (lv_at hl 0 rfl) ?_
    refine lv_aload_n hx hb dJ12_newCapacity_53 rfl (lv_at hl 4 rfl) ?_
    refine b_get hx hb hts in_J13 hown hW 0 0 15 1 rfl rfl rfl (by decide) ⟨rfl, rfl, rfl⟩ (hts _ q801) rfl dJ12_newCapacity_54 ?_
    refine lv_ishr hx hb dJ12_newCapacity_57 ?_
    have hW : bW D g A s H _ [uE g q b n f ct] := hW
    cases hf
    exact b_iret hx hb hr hlk hE hW () rfl trivial rfl dJ12_newCapacity_58
  · have hf := o_t hf c5
    cases hf
def f_J16_copyOf (n : Nat) (f : Nat → Int32) (x1 : Int32) : Option (Nat → Int32) :=
 (if x1 = (nI n) then
 none
 else
 o_ck (o_kb x1 1000) (o_lt ((if x1 < (nI n) then x1 else (nI n))) fun (v4 : Int32) =>
 o_ck (o_cpy 0 0 v4 n (ix x1)) (o_ck (bFit f n) (o_lt (va_cpy f (fun _ => 0) (ix 0) (ix 0) (ix v4)) fun (f7 : Nat → Int32) =>
 some f7))))
abbrev rm_J16_copyOf (x1 : Int32) : Room := { frames := 1, cells := 1, slots := ix x1, locals := 64 }
set_option maxHeartbeats 4000000 in
set_option maxRecDepth 100000 in
theorem m_J16_copyOf (l : Launch) (D : va_G) (g : Nat → ClassId) (sz : Nat) (b : Nat) (n : Nat) (f : Nat → Int32) (x1 : Int32) (fO : Nat → Int32) (hf : f_J16_copyOf n f x1 = some fO) : bMet (S := Nat) l yJ16_copyOf (ws_ yJ16_copyOf cJ16_copyOf 3 (some (.array .byte))) (rm_J16_copyOf x1) D g sz [.ref b, .int x1] [[(b, .inl (g 2, n, .inl f))]] (fun _ => True) (fun u => some (.ref u)) (fun u => [[(b, .inl (g 2, n, .inl f))], [(u, .inl (g 2, ix x1, .inl fO))]]) := by
  refine b_met (by decide) (Nat.le_of_ble_eq_true rfl) ?_
  intro p e s m args below meth c A Q ls hx hb hml hr hlk hown hname hts hE hl hW
  revert hW; generalize s.heap = H; intro hW
  have hl : lv_has ls 3 [(0, .ref b), (1, .int x1)] := hl
  rw [f_J16_copyOf] at hf
  refine lv_iload_n hx hb dJ16_copyOf_0 rfl (lv_at hl 1 rfl) ?_
  refine lv_aload_n hx hb dJ16_copyOf_1 rfl (lv_at hl 0 rfl) ?_
  refine b_alen hx hb hW 0 0 2 rfl rfl rfl (v := nI n) rfl dJ16_copyOf_2 ?_
  refine lv_icmp_ne (tgt := 14) hx hb dJ16_copyOf_3 (by decide) (fun c1 => ?_) (fun c1 => ?_)
  · have hf := o_f hf c1
    refine lv_iload_n hx hb dJ16_copyOf_14 rfl (lv_at hl 1 rfl) ?_
    obtain ⟨hk3, hf⟩ := o_cs hf
    refine b_newa (atype := .byte) hx hb (hts _ q336) (ty := .byte) rfl hW 2 rfl (N' := ix x1) (a0 := (ix x1, .inl (fun _ => 0))) (fun cA => rfl) (o_kb1 hk3).1 rfl (by have := (o_kb1 hk3).2; show ix x1 * _ ≤ _; simp only [componentBytes]; omega) (by show 0 + 1 ≤ 1; omega) (by have := (o_kb1 hk3).2; show 0 + ix x1 ≤ ix x1; omega) dJ16_copyOf_15 (fun z2 H hW => ?_)
    refine W.cs (cells' := 1) (slots' := (0 + (ix x1))) rfl rfl ?_
    have hW : bW D g A s H _ [[(b, .inl (g 2, n, .inl f))], [(z2, .inl (g 2, ix x1, .inl (fun _ => 0)))]] := hW
    refine lv_astore_n (lv' := [(2, .ref z2), (0, .ref b), (1, .int x1)]) hx hb dJ16_copyOf_17 rfl hl (by decide) rfl (fun ls hl => ?_)
    refine lv_aload_n hx hb dJ16_copyOf_18 rfl (lv_at hl 1 rfl) ?_
    refine lv_iconst (v := 0) hx hb dJ16_copyOf_19 (by decide) ?_
    refine lv_aload_n hx hb dJ16_copyOf_20 rfl (lv_at hl 0 rfl) ?_
    refine lv_iconst (v := 0) hx hb dJ16_copyOf_21 (by decide) ?_
    refine lv_aload_n hx hb dJ16_copyOf_22 rfl (lv_at hl 1 rfl) ?_
    refine b_alen hx hb hW 0 0 2 rfl rfl rfl (v := nI n) rfl dJ16_copyOf_23 ?_
    refine lv_iload_n hx hb dJ16_copyOf_24 rfl (lv_at hl 2 rfl) ?_
    refine va_mmin hx hb (by rw [hml]; exact hl.1.symm) hown (hts _ q847) (hts _ q848) (hts _ q92) (hts _ q849) (Nat.le_of_ble_eq_true rfl) (Nat.le_of_ble_eq_true rfl) (show 1 ≤ 1 from by omega) (show (0 + (ix x1)) ≤ ix x1 from by omega) dJ16_copyOf_25 ?_
    obtain ⟨v4, ev4, hf⟩ := o_ls hf
    refine b_topi ev4 ?_
    obtain ⟨hcp5, hf⟩ := o_cs hf
    obtain ⟨hft6, hf⟩ := o_cs hf
    obtain ⟨h1, h2, h3, h4, h5⟩ := o_cpy1 hcp5
    obtain ⟨f7, ef7, hf⟩ := o_ls hf
    refine b_cpB hx hb (by rw [hml]; exact hl.1.symm) hown (hts _ q850) (hts _ q469) (hts _ q468) (hts _ q90) hW 0 0 1 0 rfl rfl rfl rfl (w' := [(z2, .inl (g 2, ix x1, .inl f7))]) (by subst ef7; rfl) rfl h1 h2 h3 h4 h5 hft6 (Nat.le_of_ble_eq_true rfl) (Nat.le_of_ble_eq_true rfl) dJ16_copyOf_28 (fun H locs hW => ?_)
    have hW : bW D g A s H locs [[(b, .inl (g 2, n, .inl f))], [(z2, .inl (g 2, ix x1, .inl f7))]] := hW
    refine lv_aload_n hx hb dJ16_copyOf_31 rfl (lv_at hl 0 rfl) ?_
    refine W.widen (k := 1) (n := ix x1) (by omega) (by omega) ?_
    cases hf
    exact b_aret hx hb hr (Or.inr ⟨_, rfl⟩) hlk hE hW z2 rfl trivial (Or.inr ⟨_, rfl⟩) rfl dJ16_copyOf_32
  · have hf := o_t hf c1
    cases hf
def f_J12_ensureCapacityInternal (n : Nat) (f : Nat → Int32) (ct : Int32) (x1 : Int32) : Option (Nat × (Nat → Int32)) :=
 o_lt ((nI n) >>> (0 &&& 31)) fun (v1 : Int32) =>
 (if (x1 - v1) ≤ 0 then
 some (n, f)
 else
 o_b1 (f_J12_newCapacity n f ct x1) fun (r3 : Int32) =>
 o_lt (r3 <<< (0 &&& 31)) fun (v5 : Int32) =>
 o_ck (decide (ix v5 = 2 * n + 2)) (o_b1 (f_J16_copyOf n f v5) fun (f6 : Nat → Int32) =>
 some (ix v5, f6)))
abbrev rm_J12_ensureCapacityInternal (n : Nat) (x1 : Int32) : Room := { frames := 3, cells := eC n x1, slots := eS n x1, locals := 86 }
set_option maxHeartbeats 4000000 in
set_option maxRecDepth 100000 in
theorem m_J12_ensureCapacityInternal (l : Launch) (D : va_G) (g : Nat → ClassId) (sz : Nat) (q b : Nat) (n : Nat) (f : Nat → Int32) (ct : Int32) (x1 : Int32) (nO : Nat) (fO : Nat → Int32) (hf : f_J12_ensureCapacityInternal n f ct x1 = some (nO, fO)) : bMet (S := Nat) l yJ12_ensureCapacityInternal (ws_ yJ12_ensureCapacityInternal cJ12_ensureCapacityInternal 3 none) (rm_J12_ensureCapacityInternal n x1) D g sz [.ref q, .int x1] [uE g q b n f ct] (fun _ => True) (fun u => none) (fun u => [uE g q u nO fO ct]) := by
  refine b_met (by decide) (Nat.le_of_ble_eq_true rfl) ?_
  intro p e s m args below meth c A Q ls hx hb hml hr hlk hown hname hts hE hl hW
  revert hW; generalize s.heap = H; intro hW
  have hl : lv_has ls 3 [(0, .ref q), (1, .int x1)] := hl
  rw [f_J12_ensureCapacityInternal] at hf
  refine lv_aload_n hx hb dJ12_ensureCapacityInternal_0 rfl (lv_at hl 0 rfl) ?_
  have hW : bW D g A s H _ [[(q, .inr (15, [.ref b, .int 0, .int 0, .int ct]))], [(b, .inl (g 2, n, .inl f))]] := hW
  refine b_get hx hb hts in_J13 hown hW 0 0 15 0 rfl rfl rfl (by decide) ⟨rfl, rfl, rfl⟩ (hts _ q800) rfl dJ12_ensureCapacityInternal_1 ?_
  refine b_alen hx hb hW 1 0 2 rfl rfl rfl (v := nI n) rfl dJ12_ensureCapacityInternal_4 ?_
  refine lv_aload_n hx hb dJ12_ensureCapacityInternal_5 rfl (lv_at hl 0 rfl) ?_
  refine b_get hx hb hts in_J13 hown hW 0 0 15 1 rfl rfl rfl (by decide) ⟨rfl, rfl, rfl⟩ (hts _ q801) rfl dJ12_ensureCapacityInternal_6 ?_
  refine lv_ishr hx hb dJ12_ensureCapacityInternal_9 ?_
  obtain ⟨v1, ev1, hf⟩ := o_ls hf
  refine b_topi ev1 ?_
  refine lv_istore_n (lv' := [(2, .int v1), (0, .ref q), (1, .int x1)]) hx hb dJ12_ensureCapacityInternal_10 rfl hl (by decide) rfl (fun ls hl => ?_)
  refine lv_iload_n hx hb dJ12_ensureCapacityInternal_11 rfl (lv_at hl 2 rfl) ?_
  refine lv_iload_n hx hb dJ12_ensureCapacityInternal_12 rfl (lv_at hl 0 rfl) ?_
  refine lv_isub hx hb dJ12_ensureCapacityInternal_13 ?_
  refine lv_if_le (tgt := 38) hx hb dJ12_ensureCapacityInternal_14 (by decide) (fun c2 => ?_) (fun c2 => ?_)
  · have hf := o_t hf c2
    refine W.widen (k := eC n x1) (n := eS n x1) (by omega) (by omega) ?_
    have hW : bW D g A s H _ [uE g q b n f ct] := hW
    cases hf
    exact b_vret hx hb hr hlk hE hW b rfl trivial rfl dJ12_ensureCapacityInternal_38
  · have hf := o_f hf c2
    have hE1 : eC n x1 = 1 := by simp only [eC, ev1, if_neg c2]
    have hE2 : eS n x1 = 2 * n + 2 := by simp only [eS, ev1, if_neg c2]
    refine lv_aload_n hx hb dJ12_ensureCapacityInternal_17 rfl (lv_at hl 1 rfl) ?_
    refine lv_aload_n hx hb dJ12_ensureCapacityInternal_18 rfl (lv_at hl 1 rfl) ?_
    refine b_get hx hb hts in_J13 hown hW 0 0 15 0 rfl rfl rfl (by decide) ⟨rfl, rfl, rfl⟩ (hts _ q800) rfl dJ12_ensureCapacityInternal_19 ?_
    refine lv_aload_n hx hb dJ12_ensureCapacityInternal_22 rfl (lv_at hl 1 rfl) ?_
    refine lv_iload_n hx hb dJ12_ensureCapacityInternal_23 rfl (lv_at hl 2 rfl) ?_
    have hW : bW D g A s H _ [uE g q b n f ct] := hW
    obtain ⟨r3, hc4, hf⟩ := o_b1s hf
    have hp4 : List.Perm ([uE g q b n f ct] : List va_W) ([uE g q b n f ct] ++ []) := b_perm [0] [] 1 rfl rfl rfl rfl
    refine b_call0 ⟨rfl, rfl⟩ (va_runU (As := [.int x1]) ⟨hx, hb, hml, hown, hts⟩ (m_J12_newCapacity l D g H.size q b n f ct x1 r3 hc4) (t_cwU (C := "java/lang/StringBuilder") (y := ⟨"java/lang/AbstractStringBuilder", "newCapacity", "(I)I"⟩) 1 hts q824 q2034 (va_Nw.use rfl (hW.2.2.2.2.2.2.2.2.2.2.2.1 _ (List.mem_of_getElem? (i := 4) rfl))) q826 q101 q827 rfl rfl (by decide +kernel) ⟨Nat.le_of_ble_eq_true rfl, Nat.le_of_ble_eq_true rfl⟩) (b_preV (pp := 0) (q := 0) hW hp4 rfl rfl rfl) rfl rfl hl.1 rfl (by exact lv_room (Nat.le_of_ble_eq_true rfl)) dJ12_ensureCapacityInternal_24 ⟨(show 0 + 0 ≤ eC n x1 from by omega), (show 0 + 0 ≤ eS n x1 from by omega)⟩) hW hp4 (fun _ _ H locs hW => ?_)
    have hW : bW D g A s H locs [uE g q b n f ct] := hW
    refine lv_aload_n hx hb dJ12_ensureCapacityInternal_27 rfl (lv_at hl 1 rfl) ?_
    have hW : bW D g A s H _ [[(q, .inr (15, [.ref b, .int 0, .int 0, .int ct]))], [(b, .inl (g 2, n, .inl f))]] := hW
    refine b_get hx hb hts in_J13 hown hW 0 0 15 1 rfl rfl rfl (by decide) ⟨rfl, rfl, rfl⟩ (hts _ q801) rfl dJ12_ensureCapacityInternal_28 ?_
    refine lv_ishl hx hb dJ12_ensureCapacityInternal_31 ?_
    obtain ⟨v5, ev5, hf⟩ := o_ls hf
    refine b_topi ev5 ?_
    obtain ⟨hk8, hf⟩ := o_cs hf
    have hk8 := of_decide_eq_true hk8
    obtain ⟨f6, hc9, hf⟩ := o_b1s hf
    have hp9 : List.Perm ([[(q, .inr (15, [.ref b, .int 0, .int 0, .int ct]))], [(b, .inl (g 2, n, .inl f))]] : List va_W) ([[(b, .inl (g 2, n, .inl f))]] ++ [[(q, .inr (15, [.ref b, .int 0, .int 0, .int ct]))]]) := b_perm [1] [0] 2 rfl rfl rfl rfl
    refine b_call (va_runS (As := [.ref b, .int v5]) (rest := [.ref q]) ⟨hx, hb, hml, hown, hts⟩ (m_J16_copyOf l D g H.size b n f v5 f6 hc9) (va_cwS 2 hts (lw_S q837 q838 q105 q839) rfl rfl rfl (by decide +kernel) ⟨Nat.le_of_ble_eq_true rfl, Nat.le_of_ble_eq_true rfl⟩) (b_preS hW hp9) rfl rfl hl.1 rfl (by exact lv_room (Nat.le_of_ble_eq_true rfl)) dJ12_ensureCapacityInternal_32 ⟨(show 0 + 1 ≤ eC n x1 from by omega), (show 0 + (ix v5) ≤ eS n x1 from by omega)⟩) hW hp9 (fun z7 _ H locs hW => ?_)
    refine W.cs (cells' := 1) (slots' := (0 + (ix v5))) rfl rfl ?_
    have hW : bW D g A s H locs [[(b, .inl (g 2, n, .inl f))], [(z7, .inl (g 2, ix v5, .inl f6))], [(q, .inr (15, [.ref b, .int 0, .int 0, .int ct]))]] := hW
    refine b_put (v := .ref z7) hx hb hts in_J13 tyJ13 tyJ13_ok nmJ13 hown hW 2 0 15 0 rfl rfl rfl rfl rfl (by decide) ⟨rfl, rfl, rfl⟩ (hts _ q800) rfl (ty := (.array .byte)) rfl rfl rfl (Nat.le_of_ble_eq_true rfl) dJ12_ensureCapacityInternal_35 (fun H locs hW => ?_)
    have hW : bW D g A s H _ [[(b, .inl (g 2, n, .inl f))], [(z7, .inl (g 2, ix v5, .inl f6))], [(q, .inr (15, [.ref z7, .int 0, .int 0, .int ct]))]] := hW
    refine W.widen (k := eC n x1) (n := eS n x1) (by omega) (by omega) ?_
    have hW : bW D g A s H _ [[(q, .inr (15, [.ref z7, .int 0, .int 0, .int ct]))], [(z7, .inl (g 2, ix v5, .inl f6))]] := (b_sub (Bs' := [[(q, .inr (15, [.ref z7, .int 0, .int 0, .int ct]))], [(z7, .inl (g 2, ix v5, .inl f6))]]) (wr := [[(b, .inl (g 2, n, .inl f))]]) hW (b_ord [2, 1, 0] 3 rfl rfl rfl))
    have hW : bW D g A s H _ [uE g q z7 (ix v5) f6 ct] := hW
    cases hf
    exact b_vret hx hb hr hlk hE hW z7 rfl trivial rfl dJ12_ensureCapacityInternal_38
def f_J12_append (n : Nat) (f : Nat → Int32) (ct : Int32) (x1 : Int32) : Option (Nat × (Nat → Int32) × Int32) :=
 o_lt (ct + 1) fun (v1 : Int32) =>
 o_b2 (f_J12_ensureCapacityInternal n f ct v1) fun (n2 : Nat) (f3 : Nat → Int32) =>
 o_b1 (f_J17_canEncode x1) fun (r7 : Int32) =>
 (if r7 = 0 then
 none
 else
 o_lt (ct + 1) fun (v11 : Int32) =>
 o_lt (x1.toInt8.toInt32) fun (v12 : Int32) =>
 o_ck (inB ct n2) (o_lt (upd f3 (ix ct) (vp_nar .byte v12)) fun (f14 : Nat → Int32) =>
 some (n2, f14, v11)))
abbrev rm_J12_append (n : Nat) (ct : Int32) : Room := { frames := 4, cells := eC n (ct + 1), slots := eS n (ct + 1), locals := 108 }
set_option maxHeartbeats 4000000 in
set_option maxRecDepth 100000 in
theorem m_J12_append (l : Launch) (D : va_G) (g : Nat → ClassId) (sz : Nat) (q b : Nat) (n : Nat) (f : Nat → Int32) (ct : Int32) (x1 : Int32) (nO : Nat) (fO : Nat → Int32) (cO : Int32) (hf : f_J12_append n f ct x1 = some (nO, fO, cO)) : bMet (S := Nat) l yJ12_append (ws_ yJ12_append cJ12_append 2 (some (.object "java/lang/AbstractStringBuilder"))) (rm_J12_append n ct) D g sz [.ref q, .int x1] [uE g q b n f ct] (fun _ => True) (fun u => some (.ref q)) (fun u => [uE g q u nO fO cO]) := by
  refine b_met (by decide) (Nat.le_of_ble_eq_true rfl) ?_
  intro p e s m args below meth c A Q ls hx hb hml hr hlk hown hname hts hE hl hW
  revert hW; generalize s.heap = H; intro hW
  have hl : lv_has ls 2 [(0, .ref q), (1, .int x1)] := hl
  rw [f_J12_append] at hf
  refine lv_aload_n hx hb dJ12_append_0 rfl (lv_at hl 0 rfl) ?_
  refine lv_aload_n hx hb dJ12_append_1 rfl (lv_at hl 0 rfl) ?_
  have hW : bW D g A s H _ [[(q, .inr (15, [.ref b, .int 0, .int 0, .int ct]))], [(b, .inl (g 2, n, .inl f))]] := hW
  refine b_get hx hb hts in_J13 hown hW 0 0 15 3 rfl rfl rfl (by decide) ⟨rfl, rfl, rfl⟩ (hts _ q803) rfl dJ12_append_2 ?_
  refine lv_iconst (v := 1) hx hb dJ12_append_5 (by decide) ?_
  refine lv_iadd hx hb dJ12_append_6 ?_
  obtain ⟨v1, ev1, hf⟩ := o_ls hf
  refine b_topi ev1 ?_
  have hW : bW D g A s H _ [uE g q b n f ct] := hW
  obtain ⟨n2, f3, hc5, hf⟩ := o_b2s hf
  have hp5 : List.Perm ([uE g q b n f ct] : List va_W) ([uE g q b n f ct] ++ []) := b_perm [0] [] 1 rfl rfl rfl rfl
  refine b_call (va_runU (As := [.int v1]) ⟨hx, hb, hml, hown, hts⟩ (m_J12_ensureCapacityInternal l D g H.size q b n f ct v1 n2 f3 hc5) (t_cwU (C := "java/lang/StringBuilder") (y := ⟨"java/lang/AbstractStringBuilder", "ensureCapacityInternal", "(I)V"⟩) 1 hts q820 q2033 (va_Nw.use rfl (hW.2.2.2.2.2.2.2.2.2.2.2.1 _ (List.mem_of_getElem? (i := 3) rfl))) q822 q101 q823 rfl rfl (by decide +kernel) ⟨Nat.le_of_ble_eq_true rfl, Nat.le_of_ble_eq_true rfl⟩) (b_preV (pp := 0) (q := 0) hW hp5 rfl rfl rfl) rfl rfl hl.1 rfl (by exact lv_room (Nat.le_of_ble_eq_true rfl)) dJ12_append_7 ⟨(show 0 + (eC n v1) ≤ eC n (ct + 1) from by (subst_vars; omega)), (show 0 + (eS n v1) ≤ eS n (ct + 1) from by (subst_vars; omega))⟩) hW hp5 (fun b4 _ H locs hW => ?_)
  refine W.cs (cells' := (0 + (eC n v1))) (slots' := (0 + (eS n v1))) rfl rfl ?_
  have hW : bW D g A s H locs [uE g q b4 n2 f3 ct] := hW
  refine lv_aload_n hx hb dJ12_append_10 rfl (lv_at hl 0 rfl) ?_
  have hp6 : List.Perm ([uE g q b4 n2 f3 ct] : List va_W) ([uE g q b4 n2 f3 ct] ++ []) := b_perm [0] [] 1 rfl rfl rfl rfl
  refine b_call0 ⟨rfl, rfl⟩ (va_runU (As := []) ⟨hx, hb, hml, hown, hts⟩ (m_J12_isLatin1 l D g H.size q b4 n2 f3 ct) (va_cwU (x := ⟨"java/lang/AbstractStringBuilder", "isLatin1", "()Z"⟩) (y := ⟨"java/lang/AbstractStringBuilder", "isLatin1", "()Z"⟩) 0 hts (lw_U q851 q853 q854 q852 q101 q855) rfl rfl rfl rfl (by decide +kernel) ⟨Nat.le_of_ble_eq_true rfl, Nat.le_of_ble_eq_true rfl⟩) (b_preV (pp := 0) (q := 0) hW hp6 rfl rfl rfl) rfl rfl hl.1 rfl (by exact lv_room (Nat.le_of_ble_eq_true rfl)) dJ12_append_11 ⟨(show (0 + (eC n v1)) + 0 ≤ eC n (ct + 1) from by (subst_vars; omega)), (show (0 + (eS n v1)) + 0 ≤ eS n (ct + 1) from by (subst_vars; omega))⟩) hW hp6 (fun _ _ H locs hW => ?_)
  have hW : bW D g A s H locs [uE g q b4 n2 f3 ct] := hW
  refine lv_if_eq (tgt := 45) hx hb dJ12_append_14 (by decide) (fun hc => absurd hc (by decide)) (fun hc => ?_)
  refine lv_iload_n hx hb dJ12_append_17 rfl (lv_at hl 1 rfl) ?_
  obtain ⟨r7, hc8, hf⟩ := o_b1s hf
  have hp8 : List.Perm ([uE g q b4 n2 f3 ct] : List va_W) ([] ++ [uE g q b4 n2 f3 ct]) := b_perm [] [0] 1 rfl rfl rfl rfl
  refine b_call0 ⟨rfl, rfl⟩ (va_runS (As := [.int x1]) (rest := []) ⟨hx, hb, hml, hown, hts⟩ (m_J17_canEncode l D g H.size x1 r7 hc8) (va_cwS 1 hts (lw_S q856 q857 q106 q858) rfl rfl rfl (by decide +kernel) ⟨Nat.le_of_ble_eq_true rfl, Nat.le_of_ble_eq_true rfl⟩) (b_preS hW hp8) rfl rfl hl.1 rfl (by exact lv_room (Nat.le_of_ble_eq_true rfl)) dJ12_append_18 ⟨(show (0 + (eC n v1)) + 0 ≤ eC n (ct + 1) from by (subst_vars; omega)), (show (0 + (eS n v1)) + 0 ≤ eS n (ct + 1) from by (subst_vars; omega))⟩) hW hp8 (fun _ _ H locs hW => ?_)
  have hW : bW D g A s H locs [uE g q b4 n2 f3 ct] := hW
  refine lv_if_eq (tgt := 45) hx hb dJ12_append_21 (by decide) (fun c9 => ?_) (fun c9 => ?_)
  · have hf := o_t hf c9
    cases hf
  · have hf := o_f hf c9
    refine lv_aload_n hx hb dJ12_append_24 rfl (lv_at hl 0 rfl) ?_
    have hW : bW D g A s H _ [[(q, .inr (15, [.ref b4, .int 0, .int 0, .int ct]))], [(b4, .inl (g 2, n2, .inl f3))]] := hW
    refine b_get hx hb hts in_J13 hown hW 0 0 15 0 rfl rfl rfl (by decide) ⟨rfl, rfl, rfl⟩ (hts _ q800) rfl dJ12_append_25 ?_
    refine lv_aload_n hx hb dJ12_append_28 rfl (lv_at hl 0 rfl) ?_
    refine lv_dup hx hb dJ12_append_29 rfl ?_
    refine b_get hx hb hts in_J13 hown hW 0 0 15 3 rfl rfl rfl (by decide) ⟨rfl, rfl, rfl⟩ (hts _ q803) rfl dJ12_append_30 ?_
    refine lv_dup_x1 hx hb dJ12_append_33 rfl rfl ?_
    refine lv_iconst (v := 1) hx hb dJ12_append_34 (by decide) ?_
    refine lv_iadd hx hb dJ12_append_35 ?_
    obtain ⟨v11, ev11, hf⟩ := o_ls hf
    refine b_topi ev11 ?_
    refine b_put (v := .int v11) hx hb hts in_J13 tyJ13 tyJ13_ok nmJ13 hown hW 0 0 15 3 rfl rfl rfl rfl rfl (by decide) ⟨rfl, rfl, rfl⟩ (hts _ q803) rfl (ty := .int) rfl rfl rfl (Nat.le_of_ble_eq_true rfl) dJ12_append_36 (fun H locs hW => ?_)
    have hW : bW D g A s H _ [[(q, .inr (15, [.ref b4, .int 0, .int 0, .int v11]))], [(b4, .inl (g 2, n2, .inl f3))]] := hW
    refine lv_iload_n hx hb dJ12_append_39 rfl (lv_at hl 1 rfl) ?_
    refine lv_i2b hx hb dJ12_append_40 rfl ?_
    obtain ⟨v12, ev12, hf⟩ := o_ls hf
    refine b_topi ev12 ?_
    obtain ⟨h13, hf⟩ := o_cs hf
    obtain ⟨f14, ef14, hf⟩ := o_ls hf
    refine b_bast hx hb hW 1 0 rfl rfl (w' := [(b4, .inl (g 2, n2, .inl f14))]) (by subst ef14; rfl) rfl h13 dJ12_append_41 (fun H locs hW => ?_)
    have hW : bW D g A s H locs [[(q, .inr (15, [.ref b4, .int 0, .int 0, .int v11]))], [(b4, .inl (g 2, n2, .inl f14))]] := hW
    refine lv_goto (tgt := 75) hx hb dJ12_append_42 (by decide) ?_
    refine lv_aload_n hx hb dJ12_append_75 rfl (lv_at hl 0 rfl) ?_
    refine W.widen (k := eC n (ct + 1)) (n := eS n (ct + 1)) (by (subst_vars; omega)) (by (subst_vars; omega)) ?_
    have hW : bW D g A s H _ [uE g q b4 n2 f14 v11] := hW
    cases hf
    exact b_aret hx hb hr (Or.inl ⟨_, rfl⟩) hlk hE hW b4 rfl trivial (Or.inr ⟨_, rfl⟩) rfl dJ12_append_76
def f_J13_append (n : Nat) (f : Nat → Int32) (ct : Int32) (x1 : Int32) : Option (Nat × (Nat → Int32) × Int32) :=
 o_b3 (f_J12_append n f ct x1) fun (n1 : Nat) (f2 : Nat → Int32) (v3 : Int32) =>
 some (n1, f2, v3)
abbrev rm_J13_append (n : Nat) (ct : Int32) : Room := { frames := 5, cells := eC n (ct + 1), slots := eS n (ct + 1), locals := 129 }
set_option maxHeartbeats 4000000 in
set_option maxRecDepth 100000 in
theorem m_J13_append (l : Launch) (D : va_G) (g : Nat → ClassId) (sz : Nat) (q b : Nat) (n : Nat) (f : Nat → Int32) (ct : Int32) (x1 : Int32) (nO : Nat) (fO : Nat → Int32) (cO : Int32) (hf : f_J13_append n f ct x1 = some (nO, fO, cO)) : bMet (S := Nat) l yJ13_append (ws_ yJ13_append cJ13_append 2 (some (.object "java/lang/StringBuilder"))) (rm_J13_append n ct) D g sz [.ref q, .int x1] [uE g q b n f ct] (fun _ => True) (fun u => some (.ref q)) (fun u => [uE g q u nO fO cO]) := by
  refine b_met (by decide) (Nat.le_of_ble_eq_true rfl) ?_
  intro p e s m args below meth c A Q ls hx hb hml hr hlk hown hname hts hE hl hW
  revert hW; generalize s.heap = H; intro hW
  have hl : lv_has ls 2 [(0, .ref q), (1, .int x1)] := hl
  rw [f_J13_append] at hf
  refine lv_aload_n hx hb dJ13_append_0 rfl (lv_at hl 0 rfl) ?_
  refine lv_iload_n hx hb dJ13_append_1 rfl (lv_at hl 1 rfl) ?_
  obtain ⟨n1, f2, v3, hc5, hf⟩ := o_b3s hf
  have hp5 : List.Perm ([uE g q b n f ct] : List va_W) ([uE g q b n f ct] ++ []) := b_perm [0] [] 1 rfl rfl rfl rfl
  refine b_call (va_runSU (As := [.int x1]) (rest := []) ((hW.1.1 15 _ rfl).2) ⟨hx, hb, hml, hown, hts⟩ (m_J12_append l D g H.size q b n f ct x1 n1 f2 v3 hc5) (va_cwSU (y := ⟨"java/lang/AbstractStringBuilder", "append", "(C)Ljava/lang/AbstractStringBuilder;"⟩) 1 hts (lw_SU q817 q2032 q812 q818 q101 q819) rfl rfl rfl (by decide +kernel) ⟨Nat.le_of_ble_eq_true rfl, Nat.le_of_ble_eq_true rfl⟩) (b_preV (pp := 0) (q := 0) hW hp5 rfl rfl rfl) rfl rfl hl.1 rfl (by exact lv_room (Nat.le_of_ble_eq_true rfl)) dJ13_append_2 ⟨(show 0 + (eC n (ct + 1)) ≤ eC n (ct + 1) from by omega), (show 0 + (eS n (ct + 1)) ≤ eS n (ct + 1) from by omega)⟩) hW hp5 (fun b4 _ H locs hW => ?_)
  refine W.cs (cells' := (0 + (eC n (ct + 1)))) (slots' := (0 + (eS n (ct + 1)))) rfl rfl ?_
  have hW : bW D g A s H locs [uE g q b4 n1 f2 v3] := hW
  refine lv_pop hx hb dJ13_append_5 rfl ?_
  refine lv_aload_n hx hb dJ13_append_6 rfl (lv_at hl 0 rfl) ?_
  refine W.widen (k := eC n (ct + 1)) (n := eS n (ct + 1)) (by omega) (by omega) ?_
  have hW : bW D g A s H _ [[(q, .inr (15, [.ref b4, .int 0, .int 0, .int v3]))], [(b4, .inl (g 2, n1, .inl f2))]] := hW
  have hW : bW D g A s H _ [uE g q b4 n1 f2 v3] := hW
  cases hf
  exact b_aret hx hb hr (Or.inl ⟨_, rfl⟩) hlk hE hW b4 rfl trivial (Or.inr ⟨_, rfl⟩) rfl dJ13_append_7
def f_J16_checkLength (x1 : Int32) (x2 : Int32) : Option Unit :=
 (if x1 ≤ x2 then
 some ()
 else
 none)
abbrev rm_J16_checkLength : Room := { frames := 0, cells := 0, slots := 0, locals := 0 }
set_option maxHeartbeats 4000000 in
set_option maxRecDepth 100000 in
theorem m_J16_checkLength (l : Launch) (D : va_G) (g : Nat → ClassId) (sz : Nat)  (x1 : Int32) (x2 : Int32) (uO : Unit) (hf : f_J16_checkLength x1 x2 = some uO) : bMet (S := Unit) l yJ16_checkLength (ws_ yJ16_checkLength cJ16_checkLength 2 none) rm_J16_checkLength D g sz [.int x1, .int x2] [] (fun _ => True) (fun _ => none) (fun _ => []) := by
  refine b_met (by decide) (Nat.le_of_ble_eq_true rfl) ?_
  intro p e s m args below meth c A Q ls hx hb hml hr hlk hown hname hts hE hl hW
  revert hW; generalize s.heap = H; intro hW
  have hl : lv_has ls 2 [(0, .int x1), (1, .int x2)] := hl
  rw [f_J16_checkLength] at hf
  refine lv_iload_n hx hb dJ16_checkLength_0 rfl (lv_at hl 1 rfl) ?_
  refine lv_iload_n hx hb dJ16_checkLength_1 rfl (lv_at hl 0 rfl) ?_
  refine lv_icmp_ge (tgt := 37) hx hb dJ16_checkLength_2 (by decide) (fun c1 => ?_) (fun c1 => ?_)
  · have hf := o_t hf c1
    cases hf
    exact b_vret hx hb hr hlk hE hW () rfl trivial rfl dJ16_checkLength_37
  · have hf := o_f hf c1
    cases hf
def f_J16_copyOfRangeByte (n : Nat) (f : Nat → Int32) (x1 : Int32) (x2 : Int32) : Option (Nat × (Nat → Int32)) :=
 o_b1 (f_J16_checkLength x1 x2) fun (u1 : Unit) =>
 o_lt (x2 - x1) fun (v3 : Int32) =>
 o_ck (o_kb v3 1000) (o_lt ((if v3 < ((nI n) - x1) then v3 else ((nI n) - x1))) fun (v6 : Int32) =>
 o_ck (o_cpy x1 0 v6 n (ix v3)) (o_ck (bFit f n) (o_lt (va_cpy f (fun _ => 0) (ix x1) (ix 0) (ix v6)) fun (f9 : Nat → Int32) =>
 some (ix v3, f9))))
abbrev rm_J16_copyOfRangeByte (x1 x2 : Int32) : Room := { frames := 1, cells := 1, slots := ix (x2 - x1), locals := 64 }
set_option maxHeartbeats 4000000 in
set_option maxRecDepth 100000 in
theorem m_J16_copyOfRangeByte (l : Launch) (D : va_G) (g : Nat → ClassId) (sz : Nat) (b : Nat) (n : Nat) (f : Nat → Int32) (x1 : Int32) (x2 : Int32) (nO : Nat) (fO : Nat → Int32) (hf : f_J16_copyOfRangeByte n f x1 x2 = some (nO, fO)) : bMet (S := Nat) l yJ16_copyOfRangeByte (ws_ yJ16_copyOfRangeByte cJ16_copyOfRangeByte 5 (some (.array .byte))) (rm_J16_copyOfRangeByte x1 x2) D g sz [.ref b, .int x1, .int x2] [[(b, .inl (g 2, n, .inl f))]] (fun _ => True) (fun u => some (.ref u)) (fun u => [[(b, .inl (g 2, n, .inl f))], [(u, .inl (g 2, nO, .inl fO))]]) := by
  refine b_met (by decide) (Nat.le_of_ble_eq_true rfl) ?_
  intro p e s m args below meth c A Q ls hx hb hml hr hlk hown hname hts hE hl hW
  revert hW; generalize s.heap = H; intro hW
  have hl : lv_has ls 5 [(0, .ref b), (1, .int x1), (2, .int x2)] := hl
  rw [f_J16_copyOfRangeByte] at hf
  refine lv_iload_n hx hb dJ16_copyOfRangeByte_0 rfl (lv_at hl 1 rfl) ?_
  refine lv_iload_n hx hb dJ16_copyOfRangeByte_1 rfl (lv_at hl 2 rfl) ?_
  obtain ⟨u1, hc2, hf⟩ := o_b1s hf
  have hp2 : List.Perm ([[(b, .inl (g 2, n, .inl f))]] : List va_W) ([] ++ [[(b, .inl (g 2, n, .inl f))]]) := b_perm [] [0] 1 rfl rfl rfl rfl
  refine b_call0 ⟨rfl, rfl⟩ (va_runS (As := [.int x1, .int x2]) (rest := []) ⟨hx, hb, hml, hown, hts⟩ (m_J16_checkLength l D g H.size x1 x2 u1 hc2) (va_cwS 2 hts (lw_S q936 q937 q105 q938) rfl rfl rfl (by decide +kernel) ⟨Nat.le_of_ble_eq_true rfl, Nat.le_of_ble_eq_true rfl⟩) (b_preS hW hp2) rfl rfl hl.1 rfl (by exact lv_room (Nat.le_of_ble_eq_true rfl)) dJ16_copyOfRangeByte_2 ⟨(show 0 + 0 ≤ 1 from by (subst_vars; omega)), (show 0 + 0 ≤ ix (x2 - x1) from by (subst_vars; omega))⟩) hW hp2 (fun _ _ H locs hW => ?_)
  have hW : bW D g A s H locs [[(b, .inl (g 2, n, .inl f))]] := hW
  refine lv_iload_n hx hb dJ16_copyOfRangeByte_5 rfl (lv_at hl 2 rfl) ?_
  refine lv_iload_n hx hb dJ16_copyOfRangeByte_6 rfl (lv_at hl 1 rfl) ?_
  refine lv_isub hx hb dJ16_copyOfRangeByte_7 ?_
  obtain ⟨v3, ev3, hf⟩ := o_ls hf
  refine b_topi ev3 ?_
  refine lv_istore_n (lv' := [(3, .int v3), (0, .ref b), (1, .int x1), (2, .int x2)]) hx hb dJ16_copyOfRangeByte_8 rfl hl (by decide) rfl (fun ls hl => ?_)
  refine lv_iload_n hx hb dJ16_copyOfRangeByte_9 rfl (lv_at hl 0 rfl) ?_
  obtain ⟨hk5, hf⟩ := o_cs hf
  refine b_newa (atype := .byte) hx hb (hts _ q336) (ty := .byte) rfl hW 2 rfl (N' := ix v3) (a0 := (ix v3, .inl (fun _ => 0))) (fun cA => rfl) (o_kb1 hk5).1 rfl (by have := (o_kb1 hk5).2; show ix v3 * _ ≤ _; simp only [componentBytes]; omega) (by show 0 + 1 ≤ 1; (subst_vars; omega)) (by have := (o_kb1 hk5).2; show 0 + ix v3 ≤ ix (x2 - x1); (subst_vars; omega)) dJ16_copyOfRangeByte_10 (fun z4 H hW => ?_)
  refine W.cs (cells' := 1) (slots' := (0 + (ix v3))) rfl rfl ?_
  have hW : bW D g A s H _ [[(b, .inl (g 2, n, .inl f))], [(z4, .inl (g 2, ix v3, .inl (fun _ => 0)))]] := hW
  refine lv_astore (lv' := [(4, .ref z4), (3, .int v3), (0, .ref b), (1, .int x1), (2, .int x2)]) hx hb dJ16_copyOfRangeByte_12 hl (by decide) rfl (fun ls hl => ?_)
  refine lv_aload_n hx hb dJ16_copyOfRangeByte_14 rfl (lv_at hl 2 rfl) ?_
  refine lv_iload_n hx hb dJ16_copyOfRangeByte_15 rfl (lv_at hl 3 rfl) ?_
  refine lv_aload hx hb dJ16_copyOfRangeByte_16 (lv_at hl 0 rfl) ?_
  refine lv_iconst (v := 0) hx hb dJ16_copyOfRangeByte_18 (by decide) ?_
  refine lv_aload_n hx hb dJ16_copyOfRangeByte_19 rfl (lv_at hl 2 rfl) ?_
  refine b_alen hx hb hW 0 0 2 rfl rfl rfl (v := nI n) rfl dJ16_copyOfRangeByte_20 ?_
  refine lv_iload_n hx hb dJ16_copyOfRangeByte_21 rfl (lv_at hl 3 rfl) ?_
  refine lv_isub hx hb dJ16_copyOfRangeByte_22 ?_
  refine lv_iload_n hx hb dJ16_copyOfRangeByte_23 rfl (lv_at hl 1 rfl) ?_
  refine va_mmin hx hb (by rw [hml]; exact hl.1.symm) hown (hts _ q847) (hts _ q848) (hts _ q92) (hts _ q849) (Nat.le_of_ble_eq_true rfl) (Nat.le_of_ble_eq_true rfl) (show 1 ≤ 1 from by (subst_vars; omega)) (show (0 + (ix v3)) ≤ ix (x2 - x1) from by (subst_vars; omega)) dJ16_copyOfRangeByte_24 ?_
  obtain ⟨v6, ev6, hf⟩ := o_ls hf
  refine b_topi ev6 ?_
  obtain ⟨hcp7, hf⟩ := o_cs hf
  obtain ⟨hft8, hf⟩ := o_cs hf
  obtain ⟨h1, h2, h3, h4, h5⟩ := o_cpy1 hcp7
  obtain ⟨f9, ef9, hf⟩ := o_ls hf
  refine b_cpB hx hb (by rw [hml]; exact hl.1.symm) hown (hts _ q850) (hts _ q469) (hts _ q468) (hts _ q90) hW 0 0 1 0 rfl rfl rfl rfl (w' := [(z4, .inl (g 2, ix v3, .inl f9))]) (by subst ef9; rfl) rfl h1 h2 h3 h4 h5 hft8 (Nat.le_of_ble_eq_true rfl) (Nat.le_of_ble_eq_true rfl) dJ16_copyOfRangeByte_27 (fun H locs hW => ?_)
  have hW : bW D g A s H locs [[(b, .inl (g 2, n, .inl f))], [(z4, .inl (g 2, ix v3, .inl f9))]] := hW
  refine lv_aload hx hb dJ16_copyOfRangeByte_30 (lv_at hl 0 rfl) ?_
  refine W.widen (k := 1) (n := ix (x2 - x1)) (by (subst_vars; omega)) (by (subst_vars; omega)) ?_
  cases hf
  exact b_aret hx hb hr (Or.inr ⟨_, rfl⟩) hlk hE hW z4 rfl trivial (Or.inr ⟨_, rfl⟩) rfl dJ16_copyOfRangeByte_32
def f_J16_copyOfRange (n : Nat) (f : Nat → Int32) (x1 : Int32) (x2 : Int32) : Option (Nat × (Nat → Int32)) :=
 (if x1 = 0 then
 (if x2 = (nI n) then
 o_ck (bFit f n) (some (n, f))
 else
 o_b2 (f_J16_copyOfRangeByte n f x1 x2) fun (n9 : Nat) (f10 : Nat → Int32) =>
 some (n9, f10))
 else
 o_b2 (f_J16_copyOfRangeByte n f x1 x2) fun (n2 : Nat) (f3 : Nat → Int32) =>
 some (n2, f3))
abbrev rm_J16_copyOfRange (n : Nat) (x1 x2 : Int32) : Room := { frames := 2, cells := 1, slots := max n (ix (x2 - x1)), locals := 88 }
set_option maxHeartbeats 4000000 in
set_option maxRecDepth 100000 in
theorem m_J16_copyOfRange (l : Launch) (D : va_G) (g : Nat → ClassId) (sz : Nat) (b : Nat) (n : Nat) (f : Nat → Int32) (x1 : Int32) (x2 : Int32) (nO : Nat) (fO : Nat → Int32) (hf : f_J16_copyOfRange n f x1 x2 = some (nO, fO)) : bMet (S := Nat) l yJ16_copyOfRange (ws_ yJ16_copyOfRange cJ16_copyOfRange 3 (some (.array .byte))) (rm_J16_copyOfRange n x1 x2) D g sz [.ref b, .int x1, .int x2] [[(b, .inl (g 2, n, .inl f))]] (fun _ => True) (fun u => some (.ref u)) (fun u => [[(b, .inl (g 2, n, .inl f))], [(u, .inl (g 2, nO, .inl fO))]]) := by
  refine b_met (by decide) (Nat.le_of_ble_eq_true rfl) ?_
  intro p e s m args below meth c A Q ls hx hb hml hr hlk hown hname hts hE hl hW
  revert hW; generalize s.heap = H; intro hW
  have hl : lv_has ls 3 [(0, .ref b), (1, .int x1), (2, .int x2)] := hl
  rw [f_J16_copyOfRange] at hf
  refine lv_iload_n hx hb dJ16_copyOfRange_0 rfl (lv_at hl 1 rfl) ?_
  refine lv_if_ne (tgt := 10) hx hb dJ16_copyOfRange_1 (by decide) (fun c1 => ?_) (fun c1 => ?_)
  · have hf := o_f hf c1
    refine lv_aload_n hx hb dJ16_copyOfRange_10 rfl (lv_at hl 0 rfl) ?_
    refine lv_iload_n hx hb dJ16_copyOfRange_11 rfl (lv_at hl 1 rfl) ?_
    refine lv_iload_n hx hb dJ16_copyOfRange_12 rfl (lv_at hl 2 rfl) ?_
    obtain ⟨n2, f3, hc5, hf⟩ := o_b2s hf
    have hp5 : List.Perm ([[(b, .inl (g 2, n, .inl f))]] : List va_W) ([[(b, .inl (g 2, n, .inl f))]] ++ []) := b_perm [0] [] 1 rfl rfl rfl rfl
    refine b_call (va_runS (As := [.ref b, .int x1, .int x2]) (rest := []) ⟨hx, hb, hml, hown, hts⟩ (m_J16_copyOfRangeByte l D g H.size b n f x1 x2 n2 f3 hc5) (va_cwS 3 hts (lw_S q933 q934 q105 q935) rfl rfl rfl (by decide +kernel) ⟨Nat.le_of_ble_eq_true rfl, Nat.le_of_ble_eq_true rfl⟩) (b_preS hW hp5) rfl rfl hl.1 rfl (by exact lv_room (Nat.le_of_ble_eq_true rfl)) dJ16_copyOfRange_13 ⟨(show 0 + 1 ≤ 1 from by omega), (show 0 + (ix (x2 - x1)) ≤ max n (ix (x2 - x1)) from by omega)⟩) hW hp5 (fun z4 _ H locs hW => ?_)
    refine W.cs (cells' := 1) (slots' := (0 + (ix (x2 - x1)))) rfl rfl ?_
    have hW : bW D g A s H locs [[(b, .inl (g 2, n, .inl f))], [(z4, .inl (g 2, n2, .inl f3))]] := hW
    refine W.widen (k := 1) (n := max n (ix (x2 - x1))) (by omega) (by omega) ?_
    cases hf
    exact b_aret hx hb hr (Or.inr ⟨_, rfl⟩) hlk hE hW z4 rfl trivial (Or.inr ⟨_, rfl⟩) rfl dJ16_copyOfRange_16
  · have hf := o_t hf c1
    refine lv_iload_n hx hb dJ16_copyOfRange_4 rfl (lv_at hl 2 rfl) ?_
    refine lv_aload_n hx hb dJ16_copyOfRange_5 rfl (lv_at hl 0 rfl) ?_
    refine b_alen hx hb hW 0 0 2 rfl rfl rfl (v := nI n) rfl dJ16_copyOfRange_6 ?_
    refine lv_icmp_eq (tgt := 17) hx hb dJ16_copyOfRange_7 (by decide) (fun c6 => ?_) (fun c6 => ?_)
    · have hf := o_t hf c6
      refine lv_aload_n hx hb dJ16_copyOfRange_17 rfl (lv_at hl 0 rfl) ?_
      obtain ⟨hft7, hf⟩ := o_cs hf
      refine b_cloneB hx hb (by rw [hml]; exact hl.1.symm) hts hown (hts _ q840) hW 0 0 rfl rfl hft7 (Nat.le_of_ble_eq_true rfl) (Nat.le_of_ble_eq_true rfl) (show 0 + 1 ≤ 1 from by omega) (show 0 + n ≤ max n (ix (x2 - x1)) from by omega) dJ16_copyOfRange_18 (fun z8 H hW => ?_)
      refine W.cs (cells' := 1) (slots' := (0 + n)) rfl rfl ?_
      have hW : bW D g A s H _ [[(b, .inl (g 2, n, .inl f))], [(z8, .inl (g 2, n, .inl f))]] := hW
      refine b_castB hx hb hown (hts _ q846) hW 1 rfl rfl dJ16_copyOfRange_21 ?_
      refine W.widen (k := 1) (n := max n (ix (x2 - x1))) (by omega) (by omega) ?_
      cases hf
      exact b_aret hx hb hr (Or.inr ⟨_, rfl⟩) hlk hE hW z8 rfl trivial (Or.inr ⟨_, rfl⟩) rfl dJ16_copyOfRange_24
    · have hf := o_f hf c6
      refine lv_aload_n hx hb dJ16_copyOfRange_10 rfl (lv_at hl 0 rfl) ?_
      refine lv_iload_n hx hb dJ16_copyOfRange_11 rfl (lv_at hl 1 rfl) ?_
      refine lv_iload_n hx hb dJ16_copyOfRange_12 rfl (lv_at hl 2 rfl) ?_
      obtain ⟨n9, f10, hc12, hf⟩ := o_b2s hf
      have hp12 : List.Perm ([[(b, .inl (g 2, n, .inl f))]] : List va_W) ([[(b, .inl (g 2, n, .inl f))]] ++ []) := b_perm [0] [] 1 rfl rfl rfl rfl
      refine b_call (va_runS (As := [.ref b, .int x1, .int x2]) (rest := []) ⟨hx, hb, hml, hown, hts⟩ (m_J16_copyOfRangeByte l D g H.size b n f x1 x2 n9 f10 hc12) (va_cwS 3 hts (lw_S q933 q934 q105 q935) rfl rfl rfl (by decide +kernel) ⟨Nat.le_of_ble_eq_true rfl, Nat.le_of_ble_eq_true rfl⟩) (b_preS hW hp12) rfl rfl hl.1 rfl (by exact lv_room (Nat.le_of_ble_eq_true rfl)) dJ16_copyOfRange_13 ⟨(show 0 + 1 ≤ 1 from by omega), (show 0 + (ix (x2 - x1)) ≤ max n (ix (x2 - x1)) from by omega)⟩) hW hp12 (fun z11 _ H locs hW => ?_)
      refine W.cs (cells' := 1) (slots' := (0 + (ix (x2 - x1)))) rfl rfl ?_
      have hW : bW D g A s H locs [[(b, .inl (g 2, n, .inl f))], [(z11, .inl (g 2, n9, .inl f10))]] := hW
      refine W.widen (k := 1) (n := max n (ix (x2 - x1))) (by omega) (by omega) ?_
      cases hf
      exact b_aret hx hb hr (Or.inr ⟨_, rfl⟩) hlk hE hW z11 rfl trivial (Or.inr ⟨_, rfl⟩) rfl dJ16_copyOfRange_16
def f_J4_init_2 (n : Nat) (f : Nat → Int32) (ct : Int32) : Option (Nat × (Nat → Int32)) :=
 o_b2 (f_J16_copyOfRange n f 0 ct) fun (n4 : Nat) (f5 : Nat → Int32) =>
 some (n4, f5)
abbrev rm_J4_init_2 (n : Nat) (ct : Int32) : Room := { frames := 3, cells := 1, slots := max n (ix (ct - 0)), locals := 110 }
set_option maxHeartbeats 4000000 in
set_option maxRecDepth 100000 in
theorem m_J4_init_2 (l : Launch) (D : va_G) (g : Nat → ClassId) (sz : Nat) (a q b : Nat) (n : Nat) (f : Nat → Int32) (ct : Int32) (nO : Nat) (fO : Nat → Int32) (hf : f_J4_init_2 n f ct = some (nO, fO)) : bMet (S := Nat) l yJ4_init_2 (ws_ yJ4_init_2 cJ4_init_2 5 none) (rm_J4_init_2 n ct) D g sz [.ref a, .ref q, .null] [[(a, .inr (14, [.null, .int 0, .int 0, .int 0]))], uE g q b n f ct] (fun _ => True) (fun u => none) (fun u => [dE g (a, u, nO, fO, 0, 0), uE g q b n f ct]) := by
  refine b_met (by decide) (Nat.le_of_ble_eq_true rfl) ?_
  intro p e s m args below meth c A Q ls hx hb hml hr hlk hown hname hts hE hl hW
  revert hW; generalize s.heap = H; intro hW
  have hl : lv_has ls 5 [(0, .ref a), (1, .ref q), (2, .null)] := hl
  rw [f_J4_init_2] at hf
  refine lv_aload_n hx hb dJ4_init_2_0 rfl (lv_at hl 0 rfl) ?_
  refine W.objInit hx hb hown (hts _ q915) (hts _ q116) (hts _ q117) rfl (by rw [hml]; exact hl.1) rfl dJ4_init_2_1 (Nat.le_of_ble_eq_true rfl) (Nat.le_of_ble_eq_true rfl) ?_
  refine W.eq (g2 := F0 m 4 ls []) rfl ?_
  refine lv_aload_n hx hb dJ4_init_2_4 rfl (lv_at hl 1 rfl) ?_
  have hp1 : List.Perm ([[(a, .inr (14, [.null, .int 0, .int 0, .int 0]))], uE g q b n f ct] : List va_W) ([uE g q b n f ct] ++ [[(a, .inr (14, [.null, .int 0, .int 0, .int 0]))]]) := b_perm [1] [0] 2 rfl rfl rfl rfl
  refine b_call0 ⟨rfl, rfl⟩ (va_runU (As := []) ⟨hx, hb, hml, hown, hts⟩ (m_J12_getValue l D g H.size q b n f ct) (va_cwU (x := ⟨"java/lang/AbstractStringBuilder", "getValue", "()[B"⟩) (y := ⟨"java/lang/AbstractStringBuilder", "getValue", "()[B"⟩) 0 hts (lw_U q916 q918 q919 q917 q101 q920) rfl rfl rfl rfl (by decide +kernel) ⟨Nat.le_of_ble_eq_true rfl, Nat.le_of_ble_eq_true rfl⟩) (b_preV (pp := 1) (q := 0) hW hp1 rfl rfl rfl) rfl rfl hl.1 rfl (by exact lv_room (Nat.le_of_ble_eq_true rfl)) dJ4_init_2_5 ⟨(show 0 + 0 ≤ 1 from by omega), (show 0 + 0 ≤ max n (ix (ct - 0)) from by omega)⟩) hW hp1 (fun _ _ H locs hW => ?_)
  have hW : bW D g A s H locs [uE g q b n f ct, [(a, .inr (14, [.null, .int 0, .int 0, .int 0]))]] := hW
  refine lv_astore_n (lv' := [(3, .ref b), (0, .ref a), (1, .ref q), (2, .null)]) hx hb dJ4_init_2_8 rfl hl (by decide) rfl (fun ls hl => ?_)
  refine lv_aload_n hx hb dJ4_init_2_9 rfl (lv_at hl 2 rfl) ?_
  have hp2 : List.Perm ([uE g q b n f ct, [(a, .inr (14, [.null, .int 0, .int 0, .int 0]))]] : List va_W) ([uE g q b n f ct] ++ [[(a, .inr (14, [.null, .int 0, .int 0, .int 0]))]]) := b_perm [0] [1] 2 rfl rfl rfl rfl
  refine b_call0 ⟨rfl, rfl⟩ (va_runU (As := []) ⟨hx, hb, hml, hown, hts⟩ (m_J13_length l D g H.size q b n f ct) (va_cwO (x := ⟨"java/lang/AbstractStringBuilder", "length", "()I"⟩) (y := ⟨"java/lang/StringBuilder", "length", "()I"⟩) 0 hts (lw_O q921 q923 q922 q924 q925 q102 q926) rfl rfl rfl q928 (by decide +kernel) ⟨Nat.le_of_ble_eq_true rfl, Nat.le_of_ble_eq_true rfl⟩) (b_preV (pp := 0) (q := 0) hW hp2 rfl rfl rfl) rfl rfl hl.1 rfl (by exact lv_room (Nat.le_of_ble_eq_true rfl)) dJ4_init_2_10 ⟨(show 0 + 0 ≤ 1 from by omega), (show 0 + 0 ≤ max n (ix (ct - 0)) from by omega)⟩) hW hp2 (fun _ _ H locs hW => ?_)
  have hW : bW D g A s H locs [uE g q b n f ct, [(a, .inr (14, [.null, .int 0, .int 0, .int 0]))]] := hW
  refine lv_istore (lv' := [(4, .int ct), (3, .ref b), (0, .ref a), (1, .ref q), (2, .null)]) hx hb dJ4_init_2_13 hl (by decide) rfl (fun ls hl => ?_)
  refine lv_aload_n hx hb dJ4_init_2_15 rfl (lv_at hl 3 rfl) ?_
  have hp3 : List.Perm ([uE g q b n f ct, [(a, .inr (14, [.null, .int 0, .int 0, .int 0]))]] : List va_W) ([uE g q b n f ct] ++ [[(a, .inr (14, [.null, .int 0, .int 0, .int 0]))]]) := b_perm [0] [1] 2 rfl rfl rfl rfl
  refine b_call0 ⟨rfl, rfl⟩ (va_runU (As := []) ⟨hx, hb, hml, hown, hts⟩ (m_J12_isLatin1 l D g H.size q b n f ct) (va_cwU (x := ⟨"java/lang/AbstractStringBuilder", "isLatin1", "()Z"⟩) (y := ⟨"java/lang/AbstractStringBuilder", "isLatin1", "()Z"⟩) 0 hts (lw_U q929 q853 q854 q852 q101 q855) rfl rfl rfl rfl (by decide +kernel) ⟨Nat.le_of_ble_eq_true rfl, Nat.le_of_ble_eq_true rfl⟩) (b_preV (pp := 0) (q := 0) hW hp3 rfl rfl rfl) rfl rfl hl.1 rfl (by exact lv_room (Nat.le_of_ble_eq_true rfl)) dJ4_init_2_16 ⟨(show 0 + 0 ≤ 1 from by omega), (show 0 + 0 ≤ max n (ix (ct - 0)) from by omega)⟩) hW hp3 (fun _ _ H locs hW => ?_)
  have hW : bW D g A s H locs [uE g q b n f ct, [(a, .inr (14, [.null, .int 0, .int 0, .int 0]))]] := hW
  refine lv_if_eq (tgt := 41) hx hb dJ4_init_2_19 (by decide) (fun hc => absurd hc (by decide)) (fun hc => ?_)
  refine lv_aload_n hx hb dJ4_init_2_22 rfl (lv_at hl 2 rfl) ?_
  refine lv_iconst (v := 0) hx hb dJ4_init_2_23 (by decide) ?_
  refine b_putF (v := .int 0) hx hb hts in_J4 tyJ4 tyJ4_ok nmJ4 hown hW 1 0 14 1 rfl rfl rfl rfl rfl (by decide) ⟨rfl, rfl, rfl⟩ (hts _ q954) rfl hname rfl (ty := .byte) rfl rfl rfl (Nat.le_of_ble_eq_true rfl) dJ4_init_2_24 (fun H locs hW => ?_)
  have hW : bW D g A s H _ [uE g q b n f ct, [(a, .inr (14, [.null, .int 0, .int 0, .int 0]))]] := hW
  refine lv_aload_n hx hb dJ4_init_2_27 rfl (lv_at hl 2 rfl) ?_
  refine lv_aload_n hx hb dJ4_init_2_28 rfl (lv_at hl 1 rfl) ?_
  refine lv_iconst (v := 0) hx hb dJ4_init_2_29 (by decide) ?_
  refine lv_iload hx hb dJ4_init_2_30 (lv_at hl 0 rfl) ?_
  have hW : bW D g A s H _ [[(q, .inr (15, [.ref b, .int 0, .int 0, .int ct]))], [(b, .inl (g 2, n, .inl f))], [(a, .inr (14, [.null, .int 0, .int 0, .int 0]))]] := hW
  obtain ⟨n4, f5, hc7, hf⟩ := o_b2s hf
  have hp7 : List.Perm ([[(q, .inr (15, [.ref b, .int 0, .int 0, .int ct]))], [(b, .inl (g 2, n, .inl f))], [(a, .inr (14, [.null, .int 0, .int 0, .int 0]))]] : List va_W) ([[(b, .inl (g 2, n, .inl f))]] ++ [[(q, .inr (15, [.ref b, .int 0, .int 0, .int ct]))], [(a, .inr (14, [.null, .int 0, .int 0, .int 0]))]]) := b_perm [1] [0, 2] 3 rfl rfl rfl rfl
  refine b_call (va_runS (As := [.ref b, .int 0, .int ct]) (rest := [.ref a]) ⟨hx, hb, hml, hown, hts⟩ (m_J16_copyOfRange l D g H.size b n f 0 ct n4 f5 hc7) (va_cwS 3 hts (lw_S q930 q931 q105 q932) rfl rfl rfl (by decide +kernel) ⟨Nat.le_of_ble_eq_true rfl, Nat.le_of_ble_eq_true rfl⟩) (b_preS hW hp7) rfl rfl hl.1 rfl (by exact lv_room (Nat.le_of_ble_eq_true rfl)) dJ4_init_2_32 ⟨(show 0 + 1 ≤ 1 from by omega), (show 0 + (max n (ix (ct - 0))) ≤ max n (ix (ct - 0)) from by omega)⟩) hW hp7 (fun z6 _ H locs hW => ?_)
  refine W.cs (cells' := 1) (slots' := (0 + (max n (ix (ct - 0))))) rfl rfl ?_
  have hW : bW D g A s H locs [[(b, .inl (g 2, n, .inl f))], [(z6, .inl (g 2, n4, .inl f5))], [(q, .inr (15, [.ref b, .int 0, .int 0, .int ct]))], [(a, .inr (14, [.null, .int 0, .int 0, .int 0]))]] := hW
  refine b_putF (v := .ref z6) hx hb hts in_J4 tyJ4 tyJ4_ok nmJ4 hown hW 3 0 14 0 rfl rfl rfl rfl rfl (by decide) ⟨rfl, rfl, rfl⟩ (hts _ q953) rfl hname rfl (ty := (.array .byte)) rfl rfl rfl (Nat.le_of_ble_eq_true rfl) dJ4_init_2_35 (fun H locs hW => ?_)
  have hW : bW D g A s H _ [[(b, .inl (g 2, n, .inl f))], [(z6, .inl (g 2, n4, .inl f5))], [(q, .inr (15, [.ref b, .int 0, .int 0, .int ct]))], [(a, .inr (14, [.ref z6, .int 0, .int 0, .int 0]))]] := hW
  refine lv_goto (tgt := 97) hx hb dJ4_init_2_38 (by decide) ?_
  refine W.widen (k := 1) (n := max n (ix (ct - 0))) (by omega) (by omega) ?_
  have hW : bW D g A s H _ [[(q, .inr (15, [.ref b, .int 0, .int 0, .int ct]))], [(b, .inl (g 2, n, .inl f))], [(z6, .inl (g 2, n4, .inl f5))], [(a, .inr (14, [.ref z6, .int 0, .int 0, .int 0]))]] := (b_perms hW (b_ord [2, 0, 1, 3] 4 rfl rfl rfl))
  have hW : bW D g A s H _ [uE g q b n f ct, [(z6, .inl (g 2, n4, .inl f5))], [(a, .inr (14, [.ref z6, .int 0, .int 0, .int 0]))]] := hW
  have hW : bW D g A s H _ [[(a, .inr (14, [.ref z6, .int 0, .int 0, .int 0]))], [(z6, .inl (g 2, n4, .inl f5))], uE g q b n f ct] := (b_perms hW (b_ord [2, 1, 0] 3 rfl rfl rfl))
  have hW : bW D g A s H _ [dE g (a, z6, n4, f5, 0, 0), uE g q b n f ct] := hW
  cases hf
  exact b_vret hx hb hr hlk hE hW z6 rfl trivial rfl dJ4_init_2_97
def f_J4_init (n : Nat) (f : Nat → Int32) (ct : Int32) : Option (Nat × (Nat → Int32)) :=
 o_b2 (f_J4_init_2 n f ct) fun (n1 : Nat) (f2 : Nat → Int32) =>
 some (n1, f2)
abbrev rm_J4_init (n : Nat) (ct : Int32) : Room := { frames := 4, cells := 1, slots := max n (ix (ct - 0)), locals := 134 }
set_option maxHeartbeats 4000000 in
set_option maxRecDepth 100000 in
theorem m_J4_init (l : Launch) (D : va_G) (g : Nat → ClassId) (sz : Nat) (a q b : Nat) (n : Nat) (f : Nat → Int32) (ct : Int32) (nO : Nat) (fO : Nat → Int32) (hf : f_J4_init n f ct = some (nO, fO)) : bMet (S := Nat) l yJ4_init (ws_ yJ4_init cJ4_init 2 none) (rm_J4_init n ct) D g sz [.ref a, .ref q] [[(a, .inr (14, [.null, .int 0, .int 0, .int 0]))], uE g q b n f ct] (fun _ => True) (fun u => none) (fun u => [dE g (a, u, nO, fO, 0, 0), uE g q b n f ct]) := by
  refine b_met (by decide) (Nat.le_of_ble_eq_true rfl) ?_
  intro p e s m args below meth c A Q ls hx hb hml hr hlk hown hname hts hE hl hW
  revert hW; generalize s.heap = H; intro hW
  have hl : lv_has ls 2 [(0, .ref a), (1, .ref q)] := hl
  rw [f_J4_init] at hf
  refine lv_aload_n hx hb dJ4_init_0 rfl (lv_at hl 0 rfl) ?_
  refine lv_aload_n hx hb dJ4_init_1 rfl (lv_at hl 1 rfl) ?_
  refine lv_null hx hb dJ4_init_2 ?_
  obtain ⟨n1, f2, hc4, hf⟩ := o_b2s hf
  have hp4 : List.Perm ([[(a, .inr (14, [.null, .int 0, .int 0, .int 0]))], uE g q b n f ct] : List va_W) ([[(a, .inr (14, [.null, .int 0, .int 0, .int 0]))], uE g q b n f ct] ++ []) := b_perm [0, 1] [] 2 rfl rfl rfl rfl
  refine b_call (va_runI (As := [.ref q, .null]) (rest := []) ⟨hx, hb, hml, hown, hts⟩ (m_J4_init_2 l D g H.size a q b n f ct n1 f2 hc4) (cwI 2 hts (lw_meth q914) rfl rfl rfl (hts _ q84) (hts _ q912) (hts _ q913) rfl (by decide +kernel) ⟨Nat.le_of_ble_eq_true rfl, Nat.le_of_ble_eq_true rfl⟩) (b_preS hW hp4) rfl rfl hl.1 rfl (by exact lv_room (Nat.le_of_ble_eq_true rfl)) dJ4_init_3 ⟨(show 0 + 1 ≤ 1 from by omega), (show 0 + (max n (ix (ct - 0))) ≤ max n (ix (ct - 0)) from by omega)⟩) hW hp4 (fun z3 _ H locs hW => ?_)
  refine W.cs (cells' := 1) (slots' := (0 + (max n (ix (ct - 0))))) rfl rfl ?_
  have hW : bW D g A s H locs [dE g (a, z3, n1, f2, 0, 0), uE g q b n f ct] := hW
  refine W.widen (k := 1) (n := max n (ix (ct - 0))) (by omega) (by omega) ?_
  cases hf
  exact b_vret hx hb hr hlk hE hW z3 rfl trivial rfl dJ4_init_6
def f_J13_toString (n : Nat) (f : Nat → Int32) (ct : Int32) : Option (Nat × (Nat → Int32)) :=
 o_b2 (f_J4_init n f ct) fun (n2 : Nat) (f3 : Nat → Int32) =>
 some (n2, f3)
abbrev rm_J13_toString (n : Nat) (ct : Int32) : Room := { frames := 5, cells := 2, slots := 4 + max n (ix (ct - 0)), locals := 155 }
set_option maxHeartbeats 4000000 in
set_option maxRecDepth 100000 in
theorem m_J13_toString (l : Launch) (D : va_G) (g : Nat → ClassId) (sz : Nat) (q b : Nat) (n : Nat) (f : Nat → Int32) (ct : Int32) (nO : Nat) (fO : Nat → Int32) (hf : f_J13_toString n f ct = some (nO, fO)) : bMet (S := Nat × Nat) l yJ13_toString (ws_ yJ13_toString cJ13_toString 1 (some (.object "java/lang/String"))) (rm_J13_toString n ct) D g sz [.ref q] [uE g q b n f ct] (fun _ => True) (fun u => some (.ref u.1)) (fun u => [dE g (u.1, u.2, nO, fO, 0, 0), uE g q b n f ct]) := by
  refine b_met (by decide) (Nat.le_of_ble_eq_true rfl) ?_
  intro p e s m args below meth c A Q ls hx hb hml hr hlk hown hname hts hE hl hW
  revert hW; generalize s.heap = H; intro hW
  have hl : lv_has ls 1 [(0, .ref q)] := hl
  rw [f_J13_toString] at hf
  refine b_new (ci := 14) (fs := [.null, .int 0, .int 0, .int 0]) hx hb hts in_J4 tyJ4 tyJ4_ok hown (hts _ q908) (hts _ q335) (hts _ q84) hW rfl (by intro j hj; rcases (show j = 0 ∨ j = 1 ∨ j = 2 ∨ j = 3 by omega) with rfl | rfl | rfl | rfl <;> rfl) (show 0 + 1 ≤ 2 from by omega) (show 0 + 4 ≤ 4 + max n (ix (ct - 0)) from by omega) dJ13_toString_0 (fun q1 H hW => ?_)
  refine W.cs (cells' := 1) (slots' := 4) rfl rfl ?_
  have hW : bW D g A s H _ [uE g q b n f ct, [(q1, .inr (14, [.null, .int 0, .int 0, .int 0]))]] := hW
  refine lv_dup hx hb dJ13_toString_3 rfl ?_
  refine lv_aload_n hx hb dJ13_toString_4 rfl (lv_at hl 0 rfl) ?_
  obtain ⟨n2, f3, hc5, hf⟩ := o_b2s hf
  have hp5 : List.Perm ([uE g q b n f ct, [(q1, .inr (14, [.null, .int 0, .int 0, .int 0]))]] : List va_W) ([[(q1, .inr (14, [.null, .int 0, .int 0, .int 0]))], uE g q b n f ct] ++ []) := b_perm [1, 0] [] 2 rfl rfl rfl rfl
  refine b_call (va_runI (As := [.ref q]) (rest := [.ref q1]) ⟨hx, hb, hml, hown, hts⟩ (m_J4_init l D g H.size q1 q b n f ct n2 f3 hc5) (cwI 1 hts (lw_meth q911) rfl rfl rfl (hts _ q84) (hts _ q909) (hts _ q910) rfl (by decide +kernel) ⟨Nat.le_of_ble_eq_true rfl, Nat.le_of_ble_eq_true rfl⟩) (b_preS hW hp5) rfl rfl hl.1 rfl (by exact lv_room (Nat.le_of_ble_eq_true rfl)) dJ13_toString_5 ⟨(show 1 + 1 ≤ 2 from by omega), (show 4 + (max n (ix (ct - 0))) ≤ 4 + max n (ix (ct - 0)) from by omega)⟩) hW hp5 (fun z4 _ H locs hW => ?_)
  refine W.cs (cells' := 2) (slots' := (4 + (max n (ix (ct - 0))))) rfl rfl ?_
  have hW : bW D g A s H locs [dE g (q1, z4, n2, f3, 0, 0), uE g q b n f ct] := hW
  refine W.widen (k := 2) (n := 4 + max n (ix (ct - 0))) (by omega) (by omega) ?_
  cases hf
  exact b_aret hx hb hr (Or.inl ⟨_, rfl⟩) hlk hE hW (q1, z4) rfl trivial (Or.inr ⟨_, rfl⟩) rfl dJ13_toString_8
abbrev rm_J12_init : Room := { frames := 1, cells := 1, slots := 16, locals := 24 }
set_option maxHeartbeats 4000000 in
set_option maxRecDepth 100000 in
theorem m_J12_init (l : Launch) (D : va_G) (g : Nat → ClassId) (sz : Nat) (q : Nat)   : bMet (S := Nat) l yJ12_init (ws_ yJ12_init cJ12_init 2 none) rm_J12_init D g sz [.ref q, .int 16] [[(q, .inr (15, [.null, .int 0, .int 0, .int 0]))]] (fun _ => True) (fun u => none) (fun u => [uE g q u 16 (fun _ => 0) 0]) := by
  refine b_met (by decide) (Nat.le_of_ble_eq_true rfl) ?_
  intro p e s m args below meth c A Q ls hx hb hml hr hlk hown hname hts hE hl hW
  revert hW; generalize s.heap = H; intro hW
  have hl : lv_has ls 2 [(0, .ref q), (1, .int 16)] := hl
  refine lv_aload_n hx hb dJ12_init_0 rfl (lv_at hl 0 rfl) ?_
  refine W.objInit hx hb hown (hts _ q785) (hts _ q116) (hts _ q117) rfl (by rw [hml]; exact hl.1) rfl dJ12_init_1 (Nat.le_of_ble_eq_true rfl) (Nat.le_of_ble_eq_true rfl) ?_
  refine W.eq (g2 := F0 m 4 ls []) rfl ?_
  refine va_gets hx hb (b_eK hW).2.2.1 hW.2.2.2.1 hown (hts _ q786) (fun _ h => h) dJ12_init_4 ?_
  refine lv_if_eq (tgt := 25) hx hb dJ12_init_7 (by decide) (fun hc => absurd hc (by decide)) (fun hc => ?_)
  refine lv_aload_n hx hb dJ12_init_10 rfl (lv_at hl 0 rfl) ?_
  refine lv_iload_n hx hb dJ12_init_11 rfl (lv_at hl 1 rfl) ?_
  refine b_newa (atype := .byte) hx hb (hts _ q336) (ty := .byte) rfl hW 2 rfl (N' := 16) (a0 := (16, .inl (fun _ => 0))) (fun cA => rfl) (by decide) (by decide) (by decide) (Nat.le_of_ble_eq_true rfl) (Nat.le_of_ble_eq_true rfl) dJ12_init_12 (fun z1 H hW => ?_)
  refine W.cs (cells' := 1) (slots' := 16) rfl rfl ?_
  have hW : bW D g A s H _ [[(q, .inr (15, [.null, .int 0, .int 0, .int 0]))], [(z1, .inl (g 2, 16, .inl (fun _ => 0)))]] := hW
  refine b_put (v := .ref z1) hx hb hts in_J13 tyJ13 tyJ13_ok nmJ13 hown hW 0 0 15 0 rfl rfl rfl rfl rfl (by decide) ⟨rfl, rfl, rfl⟩ (hts _ q800) rfl (ty := (.array .byte)) rfl rfl rfl (Nat.le_of_ble_eq_true rfl) dJ12_init_14 (fun H locs hW => ?_)
  have hW : bW D g A s H _ [[(q, .inr (15, [.ref z1, .int 0, .int 0, .int 0]))], [(z1, .inl (g 2, 16, .inl (fun _ => 0)))]] := hW
  refine lv_aload_n hx hb dJ12_init_17 rfl (lv_at hl 0 rfl) ?_
  refine lv_iconst (v := 0) hx hb dJ12_init_18 (by decide) ?_
  refine b_put (v := .int 0) hx hb hts in_J13 tyJ13 tyJ13_ok nmJ13 hown hW 0 0 15 1 rfl rfl rfl rfl rfl (by decide) ⟨rfl, rfl, rfl⟩ (hts _ q801) rfl (ty := .byte) rfl rfl rfl (Nat.le_of_ble_eq_true rfl) dJ12_init_19 (fun H locs hW => ?_)
  have hW : bW D g A s H _ [[(q, .inr (15, [.ref z1, .int 0, .int 0, .int 0]))], [(z1, .inl (g 2, 16, .inl (fun _ => 0)))]] := hW
  refine lv_goto (tgt := 38) hx hb dJ12_init_22 (by decide) ?_
  refine W.widen (k := 1) (n := 16) (by omega) (by omega) ?_
  have hW : bW D g A s H _ [uE g q z1 16 (fun _ => 0) 0] := hW
  exact b_vret hx hb hr hlk hE hW z1 rfl trivial rfl dJ12_init_38
abbrev rm_J13_init : Room := { frames := 2, cells := 1, slots := 16, locals := 45 }
set_option maxHeartbeats 4000000 in
set_option maxRecDepth 100000 in
theorem m_J13_init (l : Launch) (D : va_G) (g : Nat → ClassId) (sz : Nat) (q : Nat)   : bMet (S := Nat) l yJ13_init (ws_ yJ13_init cJ13_init 1 none) rm_J13_init D g sz [.ref q] [[(q, .inr (15, [.null, .int 0, .int 0, .int 0]))]] (fun _ => True) (fun u => none) (fun u => [uE g q u 16 (fun _ => 0) 0]) := by
  refine b_met (by decide) (Nat.le_of_ble_eq_true rfl) ?_
  intro p e s m args below meth c A Q ls hx hb hml hr hlk hown hname hts hE hl hW
  revert hW; generalize s.heap = H; intro hW
  have hl : lv_has ls 1 [(0, .ref q)] := hl
  refine lv_aload_n hx hb dJ13_init_0 rfl (lv_at hl 0 rfl) ?_
  refine lv_bipush (v := 16) hx hb dJ13_init_1 (by decide) ?_
  have hp2 : List.Perm ([[(q, .inr (15, [.null, .int 0, .int 0, .int 0]))]] : List va_W) ([[(q, .inr (15, [.null, .int 0, .int 0, .int 0]))]] ++ []) := b_perm [0] [] 1 rfl rfl rfl rfl
  refine b_call (va_runI (As := [.int 16]) (rest := []) ⟨hx, hb, hml, hown, hts⟩ (m_J12_init l D g H.size q) (cwI 1 hts (lw_meth q784) rfl rfl rfl (hts _ q101) (hts _ q782) (hts _ q783) rfl (by decide +kernel) ⟨Nat.le_of_ble_eq_true rfl, Nat.le_of_ble_eq_true rfl⟩) (b_preS hW hp2) rfl rfl hl.1 rfl (by exact lv_room (Nat.le_of_ble_eq_true rfl)) dJ13_init_3 ⟨(show 0 + 1 ≤ 1 from by omega), (show 0 + 16 ≤ 16 from by omega)⟩) hW hp2 (fun b1 _ H locs hW => ?_)
  refine W.cs (cells' := 1) (slots' := 16) rfl rfl ?_
  have hW : bW D g A s H locs [uE g q b1 16 (fun _ => 0) 0] := hW
  refine W.widen (k := 1) (n := 16) (by omega) (by omega) ?_
  exact b_vret hx hb hr hlk hE hW b1 rfl trivial rfl dJ13_init_6
def f_J17_equals_b_L9 (n : Nat) (f : Nat → Int32) (j : Nat) (rec2 : Int32 → Option Int32) (v3 : Int32) : Option Int32 :=
 (if (nI n) ≤ v3 then
 some 1
 else
 o_ck (inB v3 n) (o_ck (inB v3 (kLen.getD j 0)) ((if (f (ix v3)) = ((kByt.getD j []).getD (ix v3) 0) then
 o_lt (v3 + 1) fun (v8 : Int32) =>
 rec2 v8
 else
 some 0))))
def f_J17_equals_b (fu : Nat) (n : Nat) (f : Nat → Int32) (h : Int32) (hz : Int32) (j : Nat) : Option Int32 :=
 (if (nI n) = (nI (kLen.getD j 0)) then
 o_lp (f_J17_equals_b_L9 n f j) fu 0
 else
 some 0)
abbrev rm_J17_equals_b : Room := { frames := 0, cells := 0, slots := 0, locals := 0 }
set_option maxHeartbeats 4000000 in
set_option maxRecDepth 100000 in
theorem m_J17_equals_b (l : Launch) (D : va_G) (g : Nat → ClassId) (sz : Nat) (q b : Nat) (fu : Nat) (n : Nat) (f : Nat → Int32) (h : Int32) (hz : Int32) (j : Nat) (hj : j < 7) (rO : Int32) (hf : f_J17_equals_b fu n f h hz j = some rO) : bMet (S := Unit) l yJ17_equals (ws_ yJ17_equals cJ17_equals 3 (some .boolean)) rm_J17_equals_b D g sz [.ref b, .ref (g (110 + j))] [dE g (q, b, n, f, h, hz)] (fun _ => True) (fun _ => some (.int rO)) (fun _ => [dE g (q, b, n, f, h, hz)]) := by
  refine b_met (by decide) (Nat.le_of_ble_eq_true rfl) ?_
  intro p e s m args below meth c A Q ls hx hb hml hr hlk hown hname hts hE hl hW
  revert hW; generalize s.heap = H; intro hW
  have hl : lv_has ls 3 [(0, .ref b), (1, .ref (g (110 + j)))] := hl
  rw [f_J17_equals_b] at hf
  refine lv_aload_n hx hb dJ17_equals_0 rfl (lv_at hl 0 rfl) ?_
  refine b_alen hx hb hW 0 1 2 rfl rfl rfl (v := nI n) rfl dJ17_equals_1 ?_
  refine lv_aload_n hx hb dJ17_equals_2 rfl (lv_at hl 1 rfl) ?_
  refine va_tlen hx hb ((b_eK hW).1.1 j hj).2.2.2 hW.2.2.2.1 (v := nI (kLen.getD j 0)) rfl dJ17_equals_3 ?_
  refine lv_icmp_ne (tgt := 34) hx hb dJ17_equals_4 (by decide) (fun c1 => ?_) (fun c1 => ?_)
  · have hf := o_f hf c1
    refine lv_iconst (v := 0) hx hb dJ17_equals_34 (by decide) ?_
    cases hf
    exact b_zret hx hb hr hlk hE hW () rfl trivial rfl (by decide) dJ17_equals_35
  · have hf := o_t hf c1
    refine lv_iconst (v := 0) hx hb dJ17_equals_7 (by decide) ?_
    refine lv_istore_n (lv' := [(2, .int 0), (0, .ref b), (1, .ref (g (110 + j)))]) hx hb dJ17_equals_8 rfl hl (by decide) rfl (fun ls hl => ?_)
    obtain ⟨stp2, est2, hf⟩ := o_ln hf
    have L2 : ∀ (nL : Nat) (v3 : Int32) (H : Heap) (locs : List Loc) (ls : Array Slot), bW D g A s H locs [dE g (q, b, n, f, h, hz)] → lv_has ls 3 [(2, .int v3), (0, .ref b), (1, .ref (g (110 + j)))] → o_lp stp2 nL v3 = some rO → W p l e rm_J17_equals_b s m args below meth c H locs 0 0 Q (F0 m 9 ls []) := by
      intro n2
      induction n2 with
      | zero => intro v3 H locs ls hW hl hf; exact (o_lz hf).elim
      | succ n2 ih2 =>
        intro v3 H locs ls hW hl hf
        have hf := o_lu est2 hf
        rw [f_J17_equals_b_L9] at hf
        refine lv_iload_n hx hb dJ17_equals_9 rfl (lv_at hl 0 rfl) ?_
        refine lv_aload_n hx hb dJ17_equals_10 rfl (lv_at hl 1 rfl) ?_
        refine b_alen hx hb hW 0 1 2 rfl rfl rfl (v := nI n) rfl dJ17_equals_11 ?_
        refine lv_icmp_ge (tgt := 32) hx hb dJ17_equals_12 (by decide) (fun c4 => ?_) (fun c4 => ?_)
        · have hf := o_t hf c4
          refine lv_iconst (v := 1) hx hb dJ17_equals_32 (by decide) ?_
          cases hf
          exact b_zret hx hb hr hlk hE hW () rfl trivial rfl (by decide) dJ17_equals_33
        · have hf := o_f hf c4
          refine lv_aload_n hx hb dJ17_equals_15 rfl (lv_at hl 1 rfl) ?_
          refine lv_iload_n hx hb dJ17_equals_16 rfl (lv_at hl 0 rfl) ?_
          obtain ⟨h5, hf⟩ := o_cs hf
          refine b_bald hx hb hW 0 1 rfl rfl h5 dJ17_equals_17 ?_
          refine lv_aload_n hx hb dJ17_equals_18 rfl (lv_at hl 2 rfl) ?_
          refine lv_iload_n hx hb dJ17_equals_19 rfl (lv_at hl 0 rfl) ?_
          obtain ⟨h6, hf⟩ := o_cs hf
          refine va_tb hx hb ((b_eK hW).1.1 j hj).2.2.2 hW.2.2.2.1 (inB_in h6) (v := .int ((kByt.getD j []).getD (ix v3) 0)) rfl dJ17_equals_20 ?_
          refine lv_icmp_eq (tgt := 26) hx hb dJ17_equals_21 (by decide) (fun c7 => ?_) (fun c7 => ?_)
          · have hf := o_t hf c7
            obtain ⟨v8, ev8, hf⟩ := o_ls hf
            refine lv_iinc (v := v8) (lv' := [(2, .int v8), (0, .ref b), (1, .ref (g (110 + j)))]) hx hb dJ17_equals_26 hl (k := 0) rfl ev8 (by decide) rfl (fun ls hl => ?_)
            refine lv_goto (tgt := 9) hx hb dJ17_equals_29 (by decide) ?_
            exact ih2 _ _ _ _ hW (lv_sub hl [0, 1, 2] rfl) hf
          · have hf := o_f hf c7
            refine lv_iconst (v := 0) hx hb dJ17_equals_24 (by decide) ?_
            cases hf
            exact b_zret hx hb hr hlk hE hW () rfl trivial rfl (by decide) dJ17_equals_25
    exact L2 _ _ _ _ _ hW (lv_sub hl [0, 1, 2] rfl) hf
def f_J17_equals_k_L9 (i : Nat) (j : Nat) (rec2 : Int32 → Option Int32) (v3 : Int32) : Option Int32 :=
 (if (nI (kLen.getD i 0)) ≤ v3 then
 some 1
 else
 o_ck (inB v3 (kLen.getD i 0)) (o_ck (inB v3 (kLen.getD j 0)) ((if ((kByt.getD i []).getD (ix v3) 0) = ((kByt.getD j []).getD (ix v3) 0) then
 o_lt (v3 + 1) fun (v8 : Int32) =>
 rec2 v8
 else
 some 0))))
def f_J17_equals_k (fu : Nat) (i : Nat) (j : Nat) : Option Int32 :=
 (if (nI (kLen.getD i 0)) = (nI (kLen.getD j 0)) then
 o_lp (f_J17_equals_k_L9 i j) fu 0
 else
 some 0)
abbrev rm_J17_equals_k : Room := { frames := 0, cells := 0, slots := 0, locals := 0 }
set_option maxHeartbeats 4000000 in
set_option maxRecDepth 100000 in
theorem m_J17_equals_k (l : Launch) (D : va_G) (g : Nat → ClassId) (sz : Nat)  (fu : Nat) (i : Nat) (j : Nat) (hi : i < 7) (hj : j < 7) (rO : Int32) (hf : f_J17_equals_k fu i j = some rO) : bMet (S := Unit) l yJ17_equals (ws_ yJ17_equals cJ17_equals 3 (some .boolean)) rm_J17_equals_k D g sz [.ref (g (110 + i)), .ref (g (110 + j))] [] (fun _ => True) (fun _ => some (.int rO)) (fun _ => []) := by
  refine b_met (by decide) (Nat.le_of_ble_eq_true rfl) ?_
  intro p e s m args below meth c A Q ls hx hb hml hr hlk hown hname hts hE hl hW
  revert hW; generalize s.heap = H; intro hW
  have hl : lv_has ls 3 [(0, .ref (g (110 + i))), (1, .ref (g (110 + j)))] := hl
  rw [f_J17_equals_k] at hf
  refine lv_aload_n hx hb dJ17_equals_0 rfl (lv_at hl 0 rfl) ?_
  refine va_tlen hx hb ((b_eK hW).1.1 i hi).2.2.2 hW.2.2.2.1 (v := nI (kLen.getD i 0)) rfl dJ17_equals_1 ?_
  refine lv_aload_n hx hb dJ17_equals_2 rfl (lv_at hl 1 rfl) ?_
  refine va_tlen hx hb ((b_eK hW).1.1 j hj).2.2.2 hW.2.2.2.1 (v := nI (kLen.getD j 0)) rfl dJ17_equals_3 ?_
  refine lv_icmp_ne (tgt := 34) hx hb dJ17_equals_4 (by decide) (fun c1 => ?_) (fun c1 => ?_)
  · have hf := o_f hf c1
    refine lv_iconst (v := 0) hx hb dJ17_equals_34 (by decide) ?_
    cases hf
    exact b_zret hx hb hr hlk hE hW () rfl trivial rfl (by decide) dJ17_equals_35
  · have hf := o_t hf c1
    refine lv_iconst (v := 0) hx hb dJ17_equals_7 (by decide) ?_
    refine lv_istore_n (lv' := [(2, .int 0), (0, .ref (g (110 + i))), (1, .ref (g (110 + j)))]) hx hb dJ17_equals_8 rfl hl (by decide) rfl (fun ls hl => ?_)
    obtain ⟨stp2, est2, hf⟩ := o_ln hf
    have L2 : ∀ (nL : Nat) (v3 : Int32) (H : Heap) (locs : List Loc) (ls : Array Slot), bW D g A s H locs [] → lv_has ls 3 [(2, .int v3), (0, .ref (g (110 + i))), (1, .ref (g (110 + j)))] → o_lp stp2 nL v3 = some rO → W p l e rm_J17_equals_k s m args below meth c H locs 0 0 Q (F0 m 9 ls []) := by
      intro n2
      induction n2 with
      | zero => intro v3 H locs ls hW hl hf; exact (o_lz hf).elim
      | succ n2 ih2 =>
        intro v3 H locs ls hW hl hf
        have hf := o_lu est2 hf
        rw [f_J17_equals_k_L9] at hf
        refine lv_iload_n hx hb dJ17_equals_9 rfl (lv_at hl 0 rfl) ?_
        refine lv_aload_n hx hb dJ17_equals_10 rfl (lv_at hl 1 rfl) ?_
        refine va_tlen hx hb ((b_eK hW).1.1 i hi).2.2.2 hW.2.2.2.1 (v := nI (kLen.getD i 0)) rfl dJ17_equals_11 ?_
        refine lv_icmp_ge (tgt := 32) hx hb dJ17_equals_12 (by decide) (fun c4 => ?_) (fun c4 => ?_)
        · have hf := o_t hf c4
          refine lv_iconst (v := 1) hx hb dJ17_equals_32 (by decide) ?_
          cases hf
          exact b_zret hx hb hr hlk hE hW () rfl trivial rfl (by decide) dJ17_equals_33
        · have hf := o_f hf c4
          refine lv_aload_n hx hb dJ17_equals_15 rfl (lv_at hl 1 rfl) ?_
          refine lv_iload_n hx hb dJ17_equals_16 rfl (lv_at hl 0 rfl) ?_
          obtain ⟨h5, hf⟩ := o_cs hf
          refine va_tb hx hb ((b_eK hW).1.1 i hi).2.2.2 hW.2.2.2.1 (inB_in h5) (v := .int ((kByt.getD i []).getD (ix v3) 0)) rfl dJ17_equals_17 ?_
          refine lv_aload_n hx hb dJ17_equals_18 rfl (lv_at hl 2 rfl) ?_
          refine lv_iload_n hx hb dJ17_equals_19 rfl (lv_at hl 0 rfl) ?_
          obtain ⟨h6, hf⟩ := o_cs hf
          refine va_tb hx hb ((b_eK hW).1.1 j hj).2.2.2 hW.2.2.2.1 (inB_in h6) (v := .int ((kByt.getD j []).getD (ix v3) 0)) rfl dJ17_equals_20 ?_
          refine lv_icmp_eq (tgt := 26) hx hb dJ17_equals_21 (by decide) (fun c7 => ?_) (fun c7 => ?_)
          · have hf := o_t hf c7
            obtain ⟨v8, ev8, hf⟩ := o_ls hf
            refine lv_iinc (v := v8) (lv' := [(2, .int v8), (0, .ref (g (110 + i))), (1, .ref (g (110 + j)))]) hx hb dJ17_equals_26 hl (k := 0) rfl ev8 (by decide) rfl (fun ls hl => ?_)
            refine lv_goto (tgt := 9) hx hb dJ17_equals_29 (by decide) ?_
            exact ih2 _ _ _ _ hW (lv_sub hl [0, 1, 2] rfl) hf
          · have hf := o_f hf c7
            refine lv_iconst (v := 0) hx hb dJ17_equals_24 (by decide) ?_
            cases hf
            exact b_zret hx hb hr hlk hE hW () rfl trivial rfl (by decide) dJ17_equals_25
    exact L2 _ _ _ _ _ hW (lv_sub hl [0, 1, 2] rfl) hf
def f_J4_equals_b (fu : Nat) (n : Nat) (f : Nat → Int32) (h : Int32) (hz : Int32) (j : Nat) : Option Int32 :=
 o_b1 (f_J17_equals_b fu n f h hz j) fun (r1 : Int32) =>
 (if r1 = 0 then
 some 0
 else
 some 1)
abbrev rm_J4_equals_b : Room := { frames := 1, cells := 0, slots := 0, locals := 22 }
set_option maxHeartbeats 4000000 in
set_option maxRecDepth 100000 in
theorem m_J4_equals_b (l : Launch) (D : va_G) (g : Nat → ClassId) (sz : Nat) (q b : Nat) (fu : Nat) (n : Nat) (f : Nat → Int32) (h : Int32) (hz : Int32) (j : Nat) (hj : j < 7) (rO : Int32) (hf : f_J4_equals_b fu n f h hz j = some rO) : bMet (S := Unit) l yJ4_equals (ws_ yJ4_equals cJ4_equals 3 (some .boolean)) rm_J4_equals_b D g sz [.ref q, .ref (g (100 + j))] [dE g (q, b, n, f, h, hz)] (fun _ => True) (fun _ => some (.int rO)) (fun _ => [dE g (q, b, n, f, h, hz)]) := by
  refine b_met (by decide) (Nat.le_of_ble_eq_true rfl) ?_
  intro p e s m args below meth c A Q ls hx hb hml hr hlk hown hname hts hE hl hW
  revert hW; generalize s.heap = H; intro hW
  have hl : lv_has ls 3 [(0, .ref q), (1, .ref (g (100 + j)))] := hl
  rw [f_J4_equals_b] at hf
  refine lv_aload_n hx hb dJ4_equals_0 rfl (lv_at hl 0 rfl) ?_
  refine lv_aload_n hx hb dJ4_equals_1 rfl (lv_at hl 1 rfl) ?_
  refine W.eq (g2 := F0 m 2 ls (va_rf (some (g (100 + j))) :: va_rf (some q) :: [])) rfl ?_
  refine lv_acmp_ne (tgt := 7) hx hb dJ4_equals_2 (by decide) (fun _ => ?_) (fun heq => absurd (Option.some.inj heq) (b_dne hW 0 0 rfl rfl hj))
  refine lv_aload_n hx hb dJ4_equals_7 rfl (lv_at hl 1 rfl) ?_
  refine va_instE hx hb hown (hts _ q1049) (by exact vk_recv (i := j) (b_eK hW).1 hj hW.2.2.2.1) dJ4_equals_8 ?_
  refine lv_if_eq (tgt := 54) hx hb dJ4_equals_11 (by decide) (fun hc => absurd hc (by decide)) (fun hc => ?_)
  refine lv_aload_n hx hb dJ4_equals_14 rfl (lv_at hl 1 rfl) ?_
  refine va_castE hx hb hown (hts _ q1049) (by exact vk_recv (i := j) (b_eK hW).1 hj hW.2.2.2.1) dJ4_equals_15 ?_
  refine lv_astore_n (lv' := [(2, .ref (g (100 + j))), (0, .ref q), (1, .ref (g (100 + j)))]) hx hb dJ4_equals_18 rfl hl (by decide) rfl (fun ls hl => ?_)
  refine va_gets hx hb (b_eK hW).2.2.1 hW.2.2.2.1 hown (hts _ q939) (fun _ h => h) dJ4_equals_19 ?_
  refine lv_if_eq (tgt := 36) hx hb dJ4_equals_22 (by decide) (fun hc => absurd hc (by decide)) (fun hc => ?_)
  refine lv_aload_n hx hb dJ4_equals_25 rfl (lv_at hl 1 rfl) ?_
  refine b_get hx hb hts in_J4 hown hW 0 0 14 1 rfl rfl rfl (by decide) ⟨rfl, rfl, rfl⟩ (hts _ q954) rfl dJ4_equals_26 ?_
  refine lv_aload_n hx hb dJ4_equals_29 rfl (lv_at hl 0 rfl) ?_
  refine vk_getf hx hb ((b_eK hW).1.1 j hj).2.1 hW.2.2.2.1 hown (hts _ q954) (fun _ h => h) dJ4_equals_30 ?_
  refine lv_icmp_ne (tgt := 54) hx hb dJ4_equals_33 (by decide) (fun hc => absurd hc (by decide)) (fun hc => ?_)
  refine lv_aload_n hx hb dJ4_equals_36 rfl (lv_at hl 1 rfl) ?_
  refine b_get hx hb hts in_J4 hown hW 0 0 14 0 rfl rfl rfl (by decide) ⟨rfl, rfl, rfl⟩ (hts _ q953) rfl dJ4_equals_37 ?_
  refine lv_aload_n hx hb dJ4_equals_40 rfl (lv_at hl 0 rfl) ?_
  refine vk_getf hx hb ((b_eK hW).1.1 j hj).2.2.1 hW.2.2.2.1 hown (hts _ q953) (fun _ h => h) dJ4_equals_41 ?_
  obtain ⟨r1, hc2, hf⟩ := o_b1s hf
  have hp2 : List.Perm ([dE g (q, b, n, f, h, hz)] : List va_W) ([dE g (q, b, n, f, h, hz)] ++ []) := b_perm [0] [] 1 rfl rfl rfl rfl
  refine b_call0 ⟨rfl, rfl⟩ (va_runS (As := [.ref b, .ref (g (110 + j))]) (rest := []) ⟨hx, hb, hml, hown, hts⟩ (m_J17_equals_b l D g H.size q b fu n f h hz j hj r1 hc2) (va_cwS 2 hts (lw_S q1050 q1051 q106 q1052) rfl rfl rfl (by decide +kernel) ⟨Nat.le_of_ble_eq_true rfl, Nat.le_of_ble_eq_true rfl⟩) (b_preS hW hp2) rfl rfl hl.1 rfl (by exact lv_room (Nat.le_of_ble_eq_true rfl)) dJ4_equals_44 ⟨Nat.le_of_ble_eq_true rfl, Nat.le_of_ble_eq_true rfl⟩) hW hp2 (fun _ _ H locs hW => ?_)
  have hW : bW D g A s H locs [dE g (q, b, n, f, h, hz)] := hW
  refine lv_if_eq (tgt := 54) hx hb dJ4_equals_47 (by decide) (fun c3 => ?_) (fun c3 => ?_)
  · have hf := o_t hf c3
    refine lv_iconst (v := 0) hx hb dJ4_equals_54 (by decide) ?_
    cases hf
    exact b_zret hx hb hr hlk hE hW () rfl trivial rfl (by decide) dJ4_equals_55
  · have hf := o_f hf c3
    refine lv_iconst (v := 1) hx hb dJ4_equals_50 (by decide) ?_
    refine lv_goto (tgt := 55) hx hb dJ4_equals_51 (by decide) ?_
    cases hf
    exact b_zret hx hb hr hlk hE hW () rfl trivial rfl (by decide) dJ4_equals_55
def f_J4_equals_k (fu : Nat) (i : Nat) (j : Nat) : Option Int32 :=
 (if i = j then
 some 1
 else
 o_b1 (f_J17_equals_k fu i j) fun (r2 : Int32) =>
 (if r2 = 0 then
 some 0
 else
 some 1))
abbrev rm_J4_equals_k : Room := { frames := 1, cells := 0, slots := 0, locals := 22 }
set_option maxHeartbeats 4000000 in
set_option maxRecDepth 100000 in
theorem m_J4_equals_k (l : Launch) (D : va_G) (g : Nat → ClassId) (sz : Nat)  (fu : Nat) (i : Nat) (j : Nat) (hi : i < 7) (hj : j < 7) (rO : Int32) (hf : f_J4_equals_k fu i j = some rO) : bMet (S := Unit) l yJ4_equals (ws_ yJ4_equals cJ4_equals 3 (some .boolean)) rm_J4_equals_k D g sz [.ref (g (100 + i)), .ref (g (100 + j))] [] (fun _ => True) (fun _ => some (.int rO)) (fun _ => []) := by
  refine b_met (by decide) (Nat.le_of_ble_eq_true rfl) ?_
  intro p e s m args below meth c A Q ls hx hb hml hr hlk hown hname hts hE hl hW
  revert hW; generalize s.heap = H; intro hW
  have hl : lv_has ls 3 [(0, .ref (g (100 + i))), (1, .ref (g (100 + j)))] := hl
  rw [f_J4_equals_k] at hf
  refine lv_aload_n hx hb dJ4_equals_0 rfl (lv_at hl 0 rfl) ?_
  refine lv_aload_n hx hb dJ4_equals_1 rfl (lv_at hl 1 rfl) ?_
  refine W.eq (g2 := F0 m 2 ls (va_rf (some (g (100 + j))) :: va_rf (some (g (100 + i))) :: [])) rfl ?_
  by_cases c1 : i = j
  · have hf := o_t hf c1
    refine lv_acmp_ne (tgt := 7) hx hb dJ4_equals_2 (by decide) (fun hne => absurd (congrArg (fun k => some (g (100 + k))) c1) hne) (fun _ => ?_)
    refine lv_iconst (v := 1) hx hb dJ4_equals_5 (by decide) ?_
    cases hf
    exact b_zret hx hb hr hlk hE hW () rfl trivial rfl (by decide) dJ4_equals_6
  · have hf := o_f hf c1
    refine lv_acmp_ne (tgt := 7) hx hb dJ4_equals_2 (by decide) (fun _ => ?_) (fun heq => absurd ((b_eK hW).1.2 i j hi hj (Option.some.inj heq)) c1)
    refine lv_aload_n hx hb dJ4_equals_7 rfl (lv_at hl 1 rfl) ?_
    refine va_instE hx hb hown (hts _ q1049) (by exact vk_recv (i := j) (b_eK hW).1 hj hW.2.2.2.1) dJ4_equals_8 ?_
    refine lv_if_eq (tgt := 54) hx hb dJ4_equals_11 (by decide) (fun hc => absurd hc (by decide)) (fun hc => ?_)
    refine lv_aload_n hx hb dJ4_equals_14 rfl (lv_at hl 1 rfl) ?_
    refine va_castE hx hb hown (hts _ q1049) (by exact vk_recv (i := j) (b_eK hW).1 hj hW.2.2.2.1) dJ4_equals_15 ?_
    refine lv_astore_n (lv' := [(2, .ref (g (100 + j))), (0, .ref (g (100 + i))), (1, .ref (g (100 + j)))]) hx hb dJ4_equals_18 rfl hl (by decide) rfl (fun ls hl => ?_)
    refine va_gets hx hb (b_eK hW).2.2.1 hW.2.2.2.1 hown (hts _ q939) (fun _ h => h) dJ4_equals_19 ?_
    refine lv_if_eq (tgt := 36) hx hb dJ4_equals_22 (by decide) (fun hc => absurd hc (by decide)) (fun hc => ?_)
    refine lv_aload_n hx hb dJ4_equals_25 rfl (lv_at hl 1 rfl) ?_
    refine vk_getf hx hb ((b_eK hW).1.1 i hi).2.1 hW.2.2.2.1 hown (hts _ q954) (fun _ h => h) dJ4_equals_26 ?_
    refine lv_aload_n hx hb dJ4_equals_29 rfl (lv_at hl 0 rfl) ?_
    refine vk_getf hx hb ((b_eK hW).1.1 j hj).2.1 hW.2.2.2.1 hown (hts _ q954) (fun _ h => h) dJ4_equals_30 ?_
    refine lv_icmp_ne (tgt := 54) hx hb dJ4_equals_33 (by decide) (fun hc => absurd hc (by decide)) (fun hc => ?_)
    refine lv_aload_n hx hb dJ4_equals_36 rfl (lv_at hl 1 rfl) ?_
    refine vk_getf hx hb ((b_eK hW).1.1 i hi).2.2.1 hW.2.2.2.1 hown (hts _ q953) (fun _ h => h) dJ4_equals_37 ?_
    refine lv_aload_n hx hb dJ4_equals_40 rfl (lv_at hl 0 rfl) ?_
    refine vk_getf hx hb ((b_eK hW).1.1 j hj).2.2.1 hW.2.2.2.1 hown (hts _ q953) (fun _ h => h) dJ4_equals_41 ?_
    obtain ⟨r2, hc3, hf⟩ := o_b1s hf
    have hp3 : List.Perm ([] : List va_W) ([] ++ []) := b_perm [] [] 0 rfl rfl rfl rfl
    refine b_call0 ⟨rfl, rfl⟩ (va_runS (As := [.ref (g (110 + i)), .ref (g (110 + j))]) (rest := []) ⟨hx, hb, hml, hown, hts⟩ (m_J17_equals_k l D g H.size fu i j hi hj r2 hc3) (va_cwS 2 hts (lw_S q1050 q1051 q106 q1052) rfl rfl rfl (by decide +kernel) ⟨Nat.le_of_ble_eq_true rfl, Nat.le_of_ble_eq_true rfl⟩) (b_preS hW hp3) rfl rfl hl.1 rfl (by exact lv_room (Nat.le_of_ble_eq_true rfl)) dJ4_equals_44 ⟨Nat.le_of_ble_eq_true rfl, Nat.le_of_ble_eq_true rfl⟩) hW hp3 (fun _ _ H locs hW => ?_)
    have hW : bW D g A s H locs [] := hW
    refine lv_if_eq (tgt := 54) hx hb dJ4_equals_47 (by decide) (fun c4 => ?_) (fun c4 => ?_)
    · have hf := o_t hf c4
      refine lv_iconst (v := 0) hx hb dJ4_equals_54 (by decide) ?_
      cases hf
      exact b_zret hx hb hr hlk hE hW () rfl trivial rfl (by decide) dJ4_equals_55
    · have hf := o_f hf c4
      refine lv_iconst (v := 1) hx hb dJ4_equals_50 (by decide) ?_
      refine lv_goto (tgt := 55) hx hb dJ4_equals_51 (by decide) ?_
      cases hf
      exact b_zret hx hb hr hlk hE hW () rfl trivial rfl (by decide) dJ4_equals_55
def f_J15_signedHashCode_L8 (n : Nat) (f : Nat → Int32) (v1 : Int32) (rec2 : (Int32 × Int32) → Option Int32) : Int32 × Int32 → Option Int32
  | (v3, v4) =>
    (if v1 ≤ v4 then
     some v3
     else
     o_ck (inB v4 n) (o_lt ((31 * v3) + ((f (ix v4)) &&& 255)) fun (v7 : Int32) =>
     o_lt (v4 + 1) fun (v8 : Int32) =>
     rec2 (v7, v8)))
def f_J15_signedHashCode (fu : Nat) (x1 : Int32) (n : Nat) (f : Nat → Int32) (h : Int32) (hz : Int32) (x3 : Int32) (x4 : Int32) : Option Int32 :=
 o_lt (x3 + x4) fun (v1 : Int32) =>
 o_lp (f_J15_signedHashCode_L8 n f v1) fu (x1, x3)
abbrev rm_J15_signedHashCode : Room := { frames := 0, cells := 0, slots := 0, locals := 0 }
set_option maxHeartbeats 4000000 in
set_option maxRecDepth 100000 in
theorem m_J15_signedHashCode (l : Launch) (D : va_G) (g : Nat → ClassId) (sz : Nat) (q b : Nat) (fu : Nat) (x1 : Int32) (n : Nat) (f : Nat → Int32) (h : Int32) (hz : Int32) (x3 : Int32) (x4 : Int32) (rO : Int32) (hf : f_J15_signedHashCode fu x1 n f h hz x3 x4 = some rO) : bMet (S := Unit) l yJ15_signedHashCode (ws_ yJ15_signedHashCode cJ15_signedHashCode 6 (some .int)) rm_J15_signedHashCode D g sz [.int x1, .ref b, .int x3, .int x4] [dE g (q, b, n, f, h, hz)] (fun _ => True) (fun _ => some (.int rO)) (fun _ => [dE g (q, b, n, f, h, hz)]) := by
  refine b_met (by decide) (Nat.le_of_ble_eq_true rfl) ?_
  intro p e s m args below meth c A Q ls hx hb hml hr hlk hown hname hts hE hl hW
  revert hW; generalize s.heap = H; intro hW
  have hl : lv_has ls 6 [(0, .int x1), (1, .ref b), (2, .int x3), (3, .int x4)] := hl
  rw [f_J15_signedHashCode] at hf
  refine lv_iload_n hx hb dJ15_signedHashCode_0 rfl (lv_at hl 2 rfl) ?_
  refine lv_iload_n hx hb dJ15_signedHashCode_1 rfl (lv_at hl 3 rfl) ?_
  refine lv_iadd hx hb dJ15_signedHashCode_2 ?_
  obtain ⟨v1, ev1, hf⟩ := o_ls hf
  refine b_topi ev1 ?_
  refine lv_istore (lv' := [(4, .int v1), (0, .int x1), (1, .ref b), (2, .int x3), (3, .int x4)]) hx hb dJ15_signedHashCode_3 hl (by decide) rfl (fun ls hl => ?_)
  refine lv_iload_n hx hb dJ15_signedHashCode_5 rfl (lv_at hl 3 rfl) ?_
  refine lv_istore (lv' := [(5, .int x3), (4, .int v1), (0, .int x1), (1, .ref b), (2, .int x3), (3, .int x4)]) hx hb dJ15_signedHashCode_6 hl (by decide) rfl (fun ls hl => ?_)
  obtain ⟨stp2, est2, hf⟩ := o_ln hf
  have L2 : ∀ (nL : Nat) (v3 : Int32) (v4 : Int32) (H : Heap) (locs : List Loc) (ls : Array Slot), bW D g A s H locs [dE g (q, b, n, f, h, hz)] → lv_has ls 6 [(5, .int v4), (4, .int v1), (0, .int v3), (1, .ref b)] → o_lp stp2 nL (v3, v4) = some rO → W p l e rm_J15_signedHashCode s m args below meth c H locs 0 0 Q (F0 m 8 ls []) := by
    intro n2
    induction n2 with
    | zero => intro v3 v4 H locs ls hW hl hf; exact (o_lz hf).elim
    | succ n2 ih2 =>
      intro v3 v4 H locs ls hW hl hf
      have hf := o_lu est2 hf
      rw [f_J15_signedHashCode_L8] at hf
      refine lv_iload hx hb dJ15_signedHashCode_8 (lv_at hl 0 rfl) ?_
      refine lv_iload hx hb dJ15_signedHashCode_10 (lv_at hl 1 rfl) ?_
      refine lv_icmp_ge (tgt := 35) hx hb dJ15_signedHashCode_12 (by decide) (fun c5 => ?_) (fun c5 => ?_)
      · have hf := o_t hf c5
        refine lv_iload_n hx hb dJ15_signedHashCode_35 rfl (lv_at hl 2 rfl) ?_
        cases hf
        exact b_iret hx hb hr hlk hE hW () rfl trivial rfl dJ15_signedHashCode_36
      · have hf := o_f hf c5
        refine lv_bipush (v := 31) hx hb dJ15_signedHashCode_15 (by decide) ?_
        refine lv_iload_n hx hb dJ15_signedHashCode_17 rfl (lv_at hl 2 rfl) ?_
        refine lv_imul hx hb dJ15_signedHashCode_18 ?_
        refine lv_aload_n hx hb dJ15_signedHashCode_19 rfl (lv_at hl 3 rfl) ?_
        refine lv_iload hx hb dJ15_signedHashCode_20 (lv_at hl 0 rfl) ?_
        obtain ⟨h6, hf⟩ := o_cs hf
        refine b_bald hx hb hW 0 1 rfl rfl h6 dJ15_signedHashCode_22 ?_
        refine lv_sipush (v := 255) hx hb dJ15_signedHashCode_23 (by decide) ?_
        refine lv_iand hx hb dJ15_signedHashCode_26 ?_
        refine lv_iadd hx hb dJ15_signedHashCode_27 ?_
        obtain ⟨v7, ev7, hf⟩ := o_ls hf
        refine b_topi ev7 ?_
        refine lv_istore_n (lv' := [(0, .int v7), (5, .int v4), (4, .int v1), (1, .ref b)]) hx hb dJ15_signedHashCode_28 rfl hl (by decide) rfl (fun ls hl => ?_)
        obtain ⟨v8, ev8, hf⟩ := o_ls hf
        refine lv_iinc (v := v8) (lv' := [(5, .int v8), (0, .int v7), (4, .int v1), (1, .ref b)]) hx hb dJ15_signedHashCode_29 hl (k := 1) rfl ev8 (by decide) rfl (fun ls hl => ?_)
        refine lv_goto (tgt := 8) hx hb dJ15_signedHashCode_32 (by decide) ?_
        exact ih2 _ _ _ _ _ hW (lv_sub hl [0, 2, 1, 3] rfl) hf
  exact L2 _ _ _ _ _ _ hW (lv_sub hl [0, 1, 2, 3] rfl) hf
def f_J15_vectorizedHashCode (fu : Nat) (n : Nat) (f : Nat → Int32) (h : Int32) (hz : Int32) (x2 : Int32) (x3 : Int32) (x4 : Int32) : Option Int32 :=
 o_b1 (f_J15_signedHashCode fu x4 n f h hz x2 x3) fun (r1 : Int32) =>
 some r1
abbrev rm_J15_vectorizedHashCode : Room := { frames := 1, cells := 0, slots := 0, locals := 25 }
set_option maxHeartbeats 4000000 in
set_option maxRecDepth 100000 in
theorem m_J15_vectorizedHashCode (l : Launch) (D : va_G) (g : Nat → ClassId) (sz : Nat) (q b : Nat) (fu : Nat) (n : Nat) (f : Nat → Int32) (h : Int32) (hz : Int32) (x2 : Int32) (x3 : Int32) (x4 : Int32) (rO : Int32) (hf : f_J15_vectorizedHashCode fu n f h hz x2 x3 x4 = some rO) : bMet (S := Unit) l yJ15_vectorizedHashCode (ws_ yJ15_vectorizedHashCode cJ15_vectorizedHashCode 5 (some .int)) rm_J15_vectorizedHashCode D g sz [.ref b, .int x2, .int x3, .int x4, .int 4] [dE g (q, b, n, f, h, hz)] (fun _ => True) (fun _ => some (.int rO)) (fun _ => [dE g (q, b, n, f, h, hz)]) := by
  refine b_met (by decide) (Nat.le_of_ble_eq_true rfl) ?_
  intro p e s m args below meth c A Q ls hx hb hml hr hlk hown hname hts hE hl hW
  revert hW; generalize s.heap = H; intro hW
  have hl : lv_has ls 5 [(0, .ref b), (1, .int x2), (2, .int x3), (3, .int x4), (4, .int 4)] := hl
  rw [f_J15_vectorizedHashCode] at hf
  refine lv_iload hx hb dJ15_vectorizedHashCode_0 (lv_at hl 4 rfl) ?_
  refine lv_tableIn (off := 42) (tgt := 44) hx hb dJ15_vectorizedHashCode_2 (by decide) (by decide) rfl (by decide) ?_
  refine lv_iload_n hx hb dJ15_vectorizedHashCode_44 rfl (lv_at hl 3 rfl) ?_
  refine lv_aload_n hx hb dJ15_vectorizedHashCode_45 rfl (lv_at hl 0 rfl) ?_
  refine b_castD hx hb hown (hts _ q1005) hW 0 rfl dJ15_vectorizedHashCode_46 ?_
  refine lv_iload_n hx hb dJ15_vectorizedHashCode_49 rfl (lv_at hl 1 rfl) ?_
  refine lv_iload_n hx hb dJ15_vectorizedHashCode_50 rfl (lv_at hl 2 rfl) ?_
  obtain ⟨r1, hc2, hf⟩ := o_b1s hf
  have hp2 : List.Perm ([dE g (q, b, n, f, h, hz)] : List va_W) ([dE g (q, b, n, f, h, hz)] ++ []) := b_perm [0] [] 1 rfl rfl rfl rfl
  refine b_call0 ⟨rfl, rfl⟩ (va_runS (As := [.int x4, .ref b, .int x2, .int x3]) (rest := []) ⟨hx, hb, hml, hown, hts⟩ (m_J15_signedHashCode l D g H.size q b fu x4 n f h hz x2 x3 r1 hc2) (va_cwS 4 hts (lw_S q1006 q1007 q104 q1008) rfl rfl rfl (by decide +kernel) ⟨Nat.le_of_ble_eq_true rfl, Nat.le_of_ble_eq_true rfl⟩) (b_preS hW hp2) rfl rfl hl.1 rfl (by exact lv_room (Nat.le_of_ble_eq_true rfl)) dJ15_vectorizedHashCode_51 ⟨Nat.le_of_ble_eq_true rfl, Nat.le_of_ble_eq_true rfl⟩) hW hp2 (fun _ _ H locs hW => ?_)
  have hW : bW D g A s H locs [dE g (q, b, n, f, h, hz)] := hW
  refine lv_goto (tgt := 157) hx hb dJ15_vectorizedHashCode_54 (by decide) ?_
  cases hf
  exact b_iret hx hb hr hlk hE hW () rfl trivial rfl dJ15_vectorizedHashCode_157
def f_J17_hashCode (fu : Nat) (n : Nat) (f : Nat → Int32) (h : Int32) (hz : Int32) : Option Int32 :=
 o_lt (nI n) fun (v1 : Int32) =>
 (if v1 = 0 then
 some 0
 else
 (if v1 = 1 then
 o_ck (inB 0 n) (some ((f (ix 0)) &&& 255))
 else
 o_b1 (f_J15_vectorizedHashCode fu n f h hz 0 (nI n) 0) fun (r5 : Int32) =>
 some r5))
abbrev rm_J17_hashCode : Room := { frames := 2, cells := 0, slots := 0, locals := 49 }
set_option maxHeartbeats 4000000 in
set_option maxRecDepth 100000 in
theorem m_J17_hashCode (l : Launch) (D : va_G) (g : Nat → ClassId) (sz : Nat) (q b : Nat) (fu : Nat) (n : Nat) (f : Nat → Int32) (h : Int32) (hz : Int32) (rO : Int32) (hf : f_J17_hashCode fu n f h hz = some rO) : bMet (S := Unit) l yJ17_hashCode (ws_ yJ17_hashCode cJ17_hashCode 1 (some .int)) rm_J17_hashCode D g sz [.ref b] [dE g (q, b, n, f, h, hz)] (fun _ => True) (fun _ => some (.int rO)) (fun _ => [dE g (q, b, n, f, h, hz)]) := by
  refine b_met (by decide) (Nat.le_of_ble_eq_true rfl) ?_
  intro p e s m args below meth c A Q ls hx hb hml hr hlk hown hname hts hE hl hW
  revert hW; generalize s.heap = H; intro hW
  have hl : lv_has ls 1 [(0, .ref b)] := hl
  rw [f_J17_hashCode] at hf
  refine lv_aload_n hx hb dJ17_hashCode_0 rfl (lv_at hl 0 rfl) ?_
  refine b_alen hx hb hW 0 1 2 rfl rfl rfl (v := nI n) rfl dJ17_hashCode_1 ?_
  obtain ⟨v1, ev1, hf⟩ := o_ls hf
  refine b_topi ev1 ?_
  by_cases c2 : v1 = 0
  · have hf := o_t hf c2
    refine lv_lookup (off := 26) (tgt := 28) hx hb dJ17_hashCode_2 (by decide) (by rw [c2]; decide) (by decide) ?_
    refine lv_iconst (v := 0) hx hb dJ17_hashCode_28 (by decide) ?_
    refine lv_goto (tgt := 51) hx hb dJ17_hashCode_29 (by decide) ?_
    cases hf
    exact b_iret hx hb hr hlk hE hW () rfl trivial rfl dJ17_hashCode_51
  · have hf := o_f hf c2
    by_cases c3 : v1 = 1
    · have hf := o_t hf c3
      refine lv_lookup (off := 30) (tgt := 32) hx hb dJ17_hashCode_2 (by decide) (by rw [c3]; decide) (by decide) ?_
      refine lv_aload_n hx hb dJ17_hashCode_32 rfl (lv_at hl 0 rfl) ?_
      refine lv_iconst (v := 0) hx hb dJ17_hashCode_33 (by decide) ?_
      obtain ⟨h4, hf⟩ := o_cs hf
      refine b_bald hx hb hW 0 1 rfl rfl h4 dJ17_hashCode_34 ?_
      refine lv_sipush (v := 255) hx hb dJ17_hashCode_35 (by decide) ?_
      refine lv_iand hx hb dJ17_hashCode_38 ?_
      refine lv_goto (tgt := 51) hx hb dJ17_hashCode_39 (by decide) ?_
      cases hf
      exact b_iret hx hb hr hlk hE hW () rfl trivial rfl dJ17_hashCode_51
    · have hf := o_f hf c3
      refine lv_lookup (off := 40) (tgt := 42) hx hb dJ17_hashCode_2 (by decide) (Eq.trans (lv_osw c2 rfl) (Eq.trans (lv_osw c3 rfl) rfl)) (by decide) ?_
      refine lv_aload_n hx hb dJ17_hashCode_42 rfl (lv_at hl 0 rfl) ?_
      refine lv_iconst (v := 0) hx hb dJ17_hashCode_43 (by decide) ?_
      refine lv_aload_n hx hb dJ17_hashCode_44 rfl (lv_at hl 0 rfl) ?_
      refine b_alen hx hb hW 0 1 2 rfl rfl rfl (v := nI n) rfl dJ17_hashCode_45 ?_
      refine lv_iconst (v := 0) hx hb dJ17_hashCode_46 (by decide) ?_
      refine lv_iconst (v := 4) hx hb dJ17_hashCode_47 (by decide) ?_
      obtain ⟨r5, hc6, hf⟩ := o_b1s hf
      have hp6 : List.Perm ([dE g (q, b, n, f, h, hz)] : List va_W) ([dE g (q, b, n, f, h, hz)] ++ []) := b_perm [0] [] 1 rfl rfl rfl rfl
      refine b_call0 ⟨rfl, rfl⟩ (va_runS (As := [.ref b, .int 0, .int (nI n), .int 0, .int 4]) (rest := []) ⟨hx, hb, hml, hown, hts⟩ (m_J15_vectorizedHashCode l D g H.size q b fu n f h hz 0 (nI n) 0 r5 hc6) (va_cwS 5 hts (lw_S q1002 q1003 q104 q1004) rfl rfl rfl (by decide +kernel) ⟨Nat.le_of_ble_eq_true rfl, Nat.le_of_ble_eq_true rfl⟩) (b_preS hW hp6) rfl rfl hl.1 rfl (by exact lv_room (Nat.le_of_ble_eq_true rfl)) dJ17_hashCode_48 ⟨Nat.le_of_ble_eq_true rfl, Nat.le_of_ble_eq_true rfl⟩) hW hp6 (fun _ _ H locs hW => ?_)
      have hW : bW D g A s H locs [dE g (q, b, n, f, h, hz)] := hW
      cases hf
      exact b_iret hx hb hr hlk hE hW () rfl trivial rfl dJ17_hashCode_51
abbrev rm_J4_isLatin1_b : Room := { frames := 0, cells := 0, slots := 0, locals := 0 }
set_option maxHeartbeats 4000000 in
set_option maxRecDepth 100000 in
theorem m_J4_isLatin1_b (l : Launch) (D : va_G) (g : Nat → ClassId) (sz : Nat) (q b : Nat) (n : Nat) (f : Nat → Int32) (h : Int32) (hz : Int32)  : bMet (S := Unit) l yJ4_isLatin1 (ws_ yJ4_isLatin1 cJ4_isLatin1 1 (some .boolean)) rm_J4_isLatin1_b D g sz [.ref q] [dE g (q, b, n, f, h, hz)] (fun _ => True) (fun _ => some (.int 1)) (fun _ => [dE g (q, b, n, f, h, hz)]) := by
  refine b_met (by decide) (Nat.le_of_ble_eq_true rfl) ?_
  intro p e s m args below meth c A Q ls hx hb hml hr hlk hown hname hts hE hl hW
  revert hW; generalize s.heap = H; intro hW
  have hl : lv_has ls 1 [(0, .ref q)] := hl
  refine va_gets hx hb (b_eK hW).2.2.1 hW.2.2.2.1 hown (hts _ q939) (fun _ h => h) dJ4_isLatin1_0 ?_
  refine lv_if_eq (tgt := 17) hx hb dJ4_isLatin1_3 (by decide) (fun hc => absurd hc (by decide)) (fun hc => ?_)
  refine lv_aload_n hx hb dJ4_isLatin1_6 rfl (lv_at hl 0 rfl) ?_
  refine b_get hx hb hts in_J4 hown hW 0 0 14 1 rfl rfl rfl (by decide) ⟨rfl, rfl, rfl⟩ (hts _ q954) rfl dJ4_isLatin1_7 ?_
  refine lv_if_ne (tgt := 17) hx hb dJ4_isLatin1_10 (by decide) (fun hc => absurd hc (by decide)) (fun hc => ?_)
  refine lv_iconst (v := 1) hx hb dJ4_isLatin1_13 (by decide) ?_
  refine lv_goto (tgt := 18) hx hb dJ4_isLatin1_14 (by decide) ?_
  exact b_zret hx hb hr hlk hE hW () rfl trivial rfl (by decide) dJ4_isLatin1_18
def f_J4_hashCode_b (fu : Nat) (n : Nat) (f : Nat → Int32) (h : Int32) (hz : Int32) : Option (Int32 × Int32 × Int32) :=
 (if h = 0 then
 (if hz = 0 then
 o_b1 (f_J17_hashCode fu n f h hz) fun (r4 : Int32) =>
 (if r4 = 0 then
 some (r4, h, 1)
 else
 some (r4, r4, hz))
 else
 some (h, h, hz))
 else
 some (h, h, hz))
abbrev rm_J4_hashCode_b : Room := { frames := 3, cells := 0, slots := 0, locals := 69 }
set_option maxHeartbeats 4000000 in
set_option maxRecDepth 100000 in
theorem m_J4_hashCode_b (l : Launch) (D : va_G) (g : Nat → ClassId) (sz : Nat) (q b : Nat) (fu : Nat) (n : Nat) (f : Nat → Int32) (h : Int32) (hz : Int32) (rO : Int32) (hO : Int32) (zO : Int32) (hf : f_J4_hashCode_b fu n f h hz = some (rO, hO, zO)) : bMet (S := Unit) l yJ4_hashCode (ws_ yJ4_hashCode cJ4_hashCode 2 (some .int)) rm_J4_hashCode_b D g sz [.ref q] [dE g (q, b, n, f, h, hz)] (fun _ => True) (fun _ => some (.int rO)) (fun _ => [dE g (q, b, n, f, hO, zO)]) := by
  refine b_met (by decide) (Nat.le_of_ble_eq_true rfl) ?_
  intro p e s m args below meth c A Q ls hx hb hml hr hlk hown hname hts hE hl hW
  revert hW; generalize s.heap = H; intro hW
  have hl : lv_has ls 2 [(0, .ref q)] := hl
  rw [f_J4_hashCode_b] at hf
  refine lv_aload_n hx hb dJ4_hashCode_0 rfl (lv_at hl 0 rfl) ?_
  refine b_get hx hb hts in_J4 hown hW 0 0 14 2 rfl rfl rfl (by decide) ⟨rfl, rfl, rfl⟩ (hts _ q955) rfl dJ4_hashCode_1 ?_
  refine lv_istore_n (lv' := [(1, .int h), (0, .ref q)]) hx hb dJ4_hashCode_4 rfl hl (by decide) rfl (fun ls hl => ?_)
  refine lv_iload_n hx hb dJ4_hashCode_5 rfl (lv_at hl 0 rfl) ?_
  refine lv_if_ne (tgt := 58) hx hb dJ4_hashCode_6 (by decide) (fun c1 => ?_) (fun c1 => ?_)
  · have hf := o_f hf c1
    refine lv_iload_n hx hb dJ4_hashCode_58 rfl (lv_at hl 0 rfl) ?_
    cases hf
    exact b_iret hx hb hr hlk hE hW () rfl trivial rfl dJ4_hashCode_59
  · have hf := o_t hf c1
    refine lv_aload_n hx hb dJ4_hashCode_9 rfl (lv_at hl 1 rfl) ?_
    refine b_get hx hb hts in_J4 hown hW 0 0 14 3 rfl rfl rfl (by decide) ⟨rfl, rfl, rfl⟩ (hts _ q956) rfl dJ4_hashCode_10 ?_
    refine lv_if_ne (tgt := 58) hx hb dJ4_hashCode_13 (by decide) (fun c2 => ?_) (fun c2 => ?_)
    · have hf := o_f hf c2
      refine lv_iload_n hx hb dJ4_hashCode_58 rfl (lv_at hl 0 rfl) ?_
      cases hf
      exact b_iret hx hb hr hlk hE hW () rfl trivial rfl dJ4_hashCode_59
    · have hf := o_t hf c2
      refine lv_aload_n hx hb dJ4_hashCode_16 rfl (lv_at hl 1 rfl) ?_
      have hp3 : List.Perm ([dE g (q, b, n, f, h, hz)] : List va_W) ([dE g (q, b, n, f, h, hz)] ++ []) := b_perm [0] [] 1 rfl rfl rfl rfl
      refine b_call0 ⟨rfl, rfl⟩ (va_runV (As := []) (rest := []) ⟨hx, hb, hml, hown, hts⟩ (m_J4_isLatin1_b l D g H.size q b n f h hz) (cwV 0 hts (lw_V q995 q996 q997 q84 q998) rfl rfl rfl (by decide +kernel) ⟨Nat.le_of_ble_eq_true rfl, Nat.le_of_ble_eq_true rfl⟩) (b_preV (pp := 0) (q := 0) hW hp3 rfl rfl rfl) rfl rfl hl.1 rfl (by exact lv_room (Nat.le_of_ble_eq_true rfl)) dJ4_hashCode_17 ⟨Nat.le_of_ble_eq_true rfl, Nat.le_of_ble_eq_true rfl⟩) hW hp3 (fun _ _ H locs hW => ?_)
      have hW : bW D g A s H locs [dE g (q, b, n, f, h, hz)] := hW
      refine lv_if_eq (tgt := 33) hx hb dJ4_hashCode_20 (by decide) (fun hc => absurd hc (by decide)) (fun hc => ?_)
      refine lv_aload_n hx hb dJ4_hashCode_23 rfl (lv_at hl 1 rfl) ?_
      refine b_get hx hb hts in_J4 hown hW 0 0 14 0 rfl rfl rfl (by decide) ⟨rfl, rfl, rfl⟩ (hts _ q953) rfl dJ4_hashCode_24 ?_
      obtain ⟨r4, hc5, hf⟩ := o_b1s hf
      have hp5 : List.Perm ([dE g (q, b, n, f, h, hz)] : List va_W) ([dE g (q, b, n, f, h, hz)] ++ []) := b_perm [0] [] 1 rfl rfl rfl rfl
      refine b_call0 ⟨rfl, rfl⟩ (va_runS (As := [.ref b]) (rest := []) ⟨hx, hb, hml, hown, hts⟩ (m_J17_hashCode l D g H.size q b fu n f h hz r4 hc5) (va_cwS 1 hts (lw_S q999 q1000 q106 q1001) rfl rfl rfl (by decide +kernel) ⟨Nat.le_of_ble_eq_true rfl, Nat.le_of_ble_eq_true rfl⟩) (b_preS hW hp5) rfl rfl hl.1 rfl (by exact lv_room (Nat.le_of_ble_eq_true rfl)) dJ4_hashCode_27 ⟨Nat.le_of_ble_eq_true rfl, Nat.le_of_ble_eq_true rfl⟩) hW hp5 (fun _ _ H locs hW => ?_)
      have hW : bW D g A s H locs [dE g (q, b, n, f, h, hz)] := hW
      refine lv_goto (tgt := 40) hx hb dJ4_hashCode_30 (by decide) ?_
      refine lv_istore_n (lv' := [(1, .int r4), (0, .ref q)]) hx hb dJ4_hashCode_40 rfl hl (by decide) rfl (fun ls hl => ?_)
      refine lv_iload_n hx hb dJ4_hashCode_41 rfl (lv_at hl 0 rfl) ?_
      refine lv_if_ne (tgt := 53) hx hb dJ4_hashCode_42 (by decide) (fun c6 => ?_) (fun c6 => ?_)
      · have hf := o_f hf c6
        refine lv_aload_n hx hb dJ4_hashCode_53 rfl (lv_at hl 1 rfl) ?_
        refine lv_iload_n hx hb dJ4_hashCode_54 rfl (lv_at hl 0 rfl) ?_
        refine b_put (v := .int r4) hx hb hts in_J4 tyJ4 tyJ4_ok nmJ4 hown hW 0 0 14 2 rfl rfl (w' := dE g (q, b, n, f, r4, hz)) rfl rfl rfl (by decide) ⟨rfl, rfl, rfl⟩ (hts _ q955) rfl (ty := .int) rfl rfl rfl (Nat.le_of_ble_eq_true rfl) dJ4_hashCode_55 (fun H locs hW => ?_)
        have hW : bW D g A s H _ [dE g (q, b, n, f, r4, hz)] := hW
        refine lv_iload_n hx hb dJ4_hashCode_58 rfl (lv_at hl 0 rfl) ?_
        cases hf
        exact b_iret hx hb hr hlk hE hW () rfl trivial rfl dJ4_hashCode_59
      · have hf := o_t hf c6
        refine lv_aload_n hx hb dJ4_hashCode_45 rfl (lv_at hl 1 rfl) ?_
        refine lv_iconst (v := 1) hx hb dJ4_hashCode_46 (by decide) ?_
        refine b_put (v := .int 1) hx hb hts in_J4 tyJ4 tyJ4_ok nmJ4 hown hW 0 0 14 3 rfl rfl (w' := dE g (q, b, n, f, h, 1)) rfl rfl rfl (by decide) ⟨rfl, rfl, rfl⟩ (hts _ q956) rfl (ty := .boolean) rfl rfl rfl (Nat.le_of_ble_eq_true rfl) dJ4_hashCode_47 (fun H locs hW => ?_)
        have hW : bW D g A s H _ [dE g (q, b, n, f, h, 1)] := hW
        refine lv_goto (tgt := 58) hx hb dJ4_hashCode_50 (by decide) ?_
        refine lv_iload_n hx hb dJ4_hashCode_58 rfl (lv_at hl 0 rfl) ?_
        cases hf
        exact b_iret hx hb hr hlk hE hW () rfl trivial rfl dJ4_hashCode_59
def f_J4_hashCode_k (i : Nat) : Option Int32 :=
 o_lt (kHash.getD i 0) fun (v1 : Int32) =>
 (if v1 = 0 then
 none
 else
 some v1)
abbrev rm_J4_hashCode_k : Room := { frames := 0, cells := 0, slots := 0, locals := 0 }
set_option maxHeartbeats 4000000 in
set_option maxRecDepth 100000 in
theorem m_J4_hashCode_k (l : Launch) (D : va_G) (g : Nat → ClassId) (sz : Nat)  (i : Nat) (hi : i < 7) (rO : Int32) (hf : f_J4_hashCode_k i = some rO) : bMet (S := Unit) l yJ4_hashCode (ws_ yJ4_hashCode cJ4_hashCode 2 (some .int)) rm_J4_hashCode_k D g sz [.ref (g (100 + i))] [] (fun _ => True) (fun _ => some (.int rO)) (fun _ => []) := by
  refine b_met (by decide) (Nat.le_of_ble_eq_true rfl) ?_
  intro p e s m args below meth c A Q ls hx hb hml hr hlk hown hname hts hE hl hW
  revert hW; generalize s.heap = H; intro hW
  have hl : lv_has ls 2 [(0, .ref (g (100 + i)))] := hl
  rw [f_J4_hashCode_k] at hf
  refine lv_aload_n hx hb dJ4_hashCode_0 rfl (lv_at hl 0 rfl) ?_
  refine vk_getf hx hb ((b_eK hW).2.1 i hi).1 hW.2.2.2.1 hown (hts _ q955) (fun _ h => h) dJ4_hashCode_1 ?_
  obtain ⟨v1, ev1, hf⟩ := o_ls hf
  refine b_topi ev1 ?_
  refine lv_istore_n (lv' := [(1, .int v1), (0, .ref (g (100 + i)))]) hx hb dJ4_hashCode_4 rfl hl (by decide) rfl (fun ls hl => ?_)
  refine lv_iload_n hx hb dJ4_hashCode_5 rfl (lv_at hl 0 rfl) ?_
  refine lv_if_ne (tgt := 58) hx hb dJ4_hashCode_6 (by decide) (fun c2 => ?_) (fun c2 => ?_)
  · have hf := o_f hf c2
    refine lv_iload_n hx hb dJ4_hashCode_58 rfl (lv_at hl 0 rfl) ?_
    cases hf
    exact b_iret hx hb hr hlk hE hW () rfl trivial rfl dJ4_hashCode_59
  · have hf := o_t hf c2
    cases hf
