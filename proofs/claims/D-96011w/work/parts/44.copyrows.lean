/-! System.arraycopy over the rows: what it throws, and what it copies -/
set_option maxRecDepth 100000
def rTy : Nat → FieldType
  | 0 => .byte
  | 1 => .short
  | 2 => .int
  | 3 => .long
  | _ => .boolean
theorem c_kn : ∀ k : Nat, (Native.java_lang_System.arraycopy.kindName (rTy k)).toList.length ≤ 7
  | 0 => by decide
  | 1 => by decide
  | 2 => by decide
  | 3 => by decide
  | k + 4 => by show ("boolean" : String).toList.length ≤ 7; decide
theorem c_text {w : String} (h : w.toList.length ≤ 72) : (("arraycopy: " ++ w) == notModelled) = false ∧ (stringBytes (stringToUtf16 ("arraycopy: " ++ w))).size ≤ 340 := by
  constructor
  · rw [beq_eq_false_iff_ne]
    intro h1
    have h2 := congrArg String.toList h1
    rw [String.toList_append] at h2
    have h3 : ("arraycopy: " : String).toList = 'a' :: "rraycopy: ".toList := by decide
    have h4 : notModelled.toList = '\u0000' :: " a message that is not modelled".toList := by decide
    rw [h3, h4] at h2
    simp at h2
  · have b1 := stringBytes_size_le (stringToUtf16 ("arraycopy: " ++ w))
    have b2 := utf16_size_le ("arraycopy: " ++ w)
    have b3 : ("arraycopy: " ++ w).toList.length = 11 + w.toList.length := by
      rw [String.toList_append, List.length_append]
      have : ("arraycopy: " : String).toList.length = 11 := by decide
      omega
    omega
theorem c_intp {z : Int} (h0 : 0 ≤ z) (h1 : z < 4294967296) : (toString z).toList.length ≤ 10 := by
  cases z with
  | ofNat m =>
    have := nat_print (n := m) (by have h2 : (m : Int) < 4294967296 := h1; omega)
    exact this
  | negSucc m => exact absurd h0 (by simp [Int.negSucc_not_nonneg])
/-- an array as the message names it -/
def c_arS (k n : Nat) : String := toString (Native.java_lang_System.arraycopy.kindName (rTy k)) ++ toString "[" ++ toString n ++ toString "]"
def c_msS (i j : Nat) : String := toString "arraycopy: type mismatch: can not copy " ++ toString (Native.java_lang_System.arraycopy.kindName (rTy i)) ++ toString "[] into " ++ toString (Native.java_lang_System.arraycopy.kindName (rTy j)) ++ toString "[]"
theorem c_arr {k n : Nat} (hn : n < 2147483648) : (c_arS k n).toList.length ≤ 19 := by
  show (toString (Native.java_lang_System.arraycopy.kindName (rTy k)) ++ toString "[" ++ toString n ++ toString "]").toList.length ≤ 19
  simp only [String.toList_append, List.length_append]
  have a2 : (toString (Native.java_lang_System.arraycopy.kindName (rTy k))).toList.length ≤ 7 := c_kn k
  have a3 : (toString "[").toList.length = 1 := by decide
  have a4 := nat_print (n := n) (by omega)
  have a5 : (toString "]").toList.length = 1 := by decide
  omega
theorem c_ix {x : Int32} (h : ¬ x < 0) : x.toInt = (ix x : Int) := by
  have h0 : (0 : Int) ≤ x.toInt := by
    have := Int32.not_lt.mp h
    simpa using Int32.le_iff_toInt_le.mp this
  show x.toInt = ((x.toInt.toNat : Nat) : Int)
  omega
theorem c_ixlt (x : Int32) : ix x < 2147483648 := by
  have h1 := Int32.toInt_lt x
  show x.toInt.toNat < 2147483648
  omega
/-- where the three ints do not fit, arraycopy finds a fault, and its text is short -/
theorem c_fault {k n0 n1 : Nat} {sp dp n : Int32} (h0 : n0 < 2147483648) (h1 : n1 < 2147483648) (h : ¬ o_cpy sp dp n n0 n1 = true) : ∃ w : String, copyFault (rTy k) (rTy k) n0 n1 sp dp n = some w ∧ w.toList.length ≤ 72 := by
  unfold copyFault
  have hs := int32_print sp
  have hd := int32_print dp
  have hn := int32_print n
  have a0 := c_arr (k := k) h0
  have a1 := c_arr (k := k) h1
  have b1 : (toString "source index ").toList.length = 13 := by decide
  have b2 : (toString " out of bounds for ").toList.length = 19 := by decide
  have b3 : (toString "destination index ").toList.length = 18 := by decide
  have b4 : (toString "length ").toList.length = 7 := by decide
  have b5 : (toString " is negative").toList.length = 12 := by decide
  have b6 : (toString "last source index ").toList.length = 18 := by decide
  have b7 : (toString "last destination index ").toList.length = 23 := by decide
  by_cases c1 : sp < 0
  · rw [if_pos c1]
    refine ⟨_, rfl, ?_⟩
    show (toString "source index " ++ toString sp ++ toString " out of bounds for " ++ toString (c_arS k n0)).toList.length ≤ 72
    simp only [String.toList_append, List.length_append]
    have a0' : (toString (c_arS k n0)).toList.length ≤ 19 := a0
    omega
  rw [if_neg c1]
  by_cases c2 : dp < 0
  · rw [if_pos c2]
    refine ⟨_, rfl, ?_⟩
    show (toString "destination index " ++ toString dp ++ toString " out of bounds for " ++ toString (c_arS k n1)).toList.length ≤ 72
    simp only [String.toList_append, List.length_append]
    have a1' : (toString (c_arS k n1)).toList.length ≤ 19 := a1
    omega
  rw [if_neg c2]
  by_cases c3 : n < 0
  · rw [if_pos c3]
    refine ⟨_, rfl, ?_⟩
    show (toString "length " ++ toString n ++ toString " is negative").toList.length ≤ 72
    simp only [String.toList_append, List.length_append]
    omega
  rw [if_neg c3]
  have e1 := c_ix c1
  have e2 := c_ix c2
  have e3 := c_ix c3
  have l1 := c_ixlt sp
  have l2 := c_ixlt dp
  have l3 := c_ixlt n
  by_cases c4 : sp.toInt + n.toInt > n0
  · rw [if_pos c4]
    refine ⟨_, rfl, ?_⟩
    show (toString "last source index " ++ toString (sp.toInt + n.toInt) ++ toString " out of bounds for " ++ toString (c_arS k n0)).toList.length ≤ 72
    simp only [String.toList_append, List.length_append]
    have a0' : (toString (c_arS k n0)).toList.length ≤ 19 := a0
    have := c_intp (z := sp.toInt + n.toInt) (by omega) (by omega)
    omega
  rw [if_neg c4]
  by_cases c5 : dp.toInt + n.toInt > n1
  · rw [if_pos c5]
    refine ⟨_, rfl, ?_⟩
    show (toString "last destination index " ++ toString (dp.toInt + n.toInt) ++ toString " out of bounds for " ++ toString (c_arS k n1)).toList.length ≤ 72
    simp only [String.toList_append, List.length_append]
    have a1' : (toString (c_arS k n1)).toList.length ≤ 19 := a1
    have := c_intp (z := dp.toInt + n.toInt) (by omega) (by omega)
    omega
  exact absurd (by simp only [o_cpy, Bool.and_eq_true, Bool.not_eq_true', decide_eq_false_iff_not, decide_eq_true_eq]; exact ⟨⟨⟨⟨c1, c2⟩, c3⟩, by omega⟩, by omega⟩) h
theorem c_mis (i j : Nat) : ((c_msS i j) == notModelled) = false ∧ (stringBytes (stringToUtf16 (c_msS i j))).size ≤ 340 := by
  have e : (c_msS i j) = "arraycopy: " ++ ("type mismatch: can not copy " ++ Native.java_lang_System.arraycopy.kindName (rTy i) ++ "[] into " ++ Native.java_lang_System.arraycopy.kindName (rTy j) ++ "[]") := by
    show (toString "arraycopy: type mismatch: can not copy " ++ toString (Native.java_lang_System.arraycopy.kindName (rTy i)) ++ toString "[] into " ++ toString (Native.java_lang_System.arraycopy.kindName (rTy j)) ++ toString "[]") = _
    apply String.toList_injective
    simp only [String.toList_append]
    have : (toString "arraycopy: type mismatch: can not copy ").toList = ("arraycopy: " : String).toList ++ ("type mismatch: can not copy " : String).toList := by decide
    rw [this]
    simp only [List.append_assoc]
    rfl
  rw [e]
  refine c_text ?_
  simp only [String.toList_append, List.length_append]
  have a1 : ("type mismatch: can not copy " : String).toList.length = 28 := by decide
  have a2 : ("[] into " : String).toList.length = 8 := by decide
  have a3 : ("[]" : String).toList.length = 2 := by decide
  have a4 := c_kn i
  have a5 := c_kn j
  omega

section CPW
variable {p : Program} {l : Launch} {e : Env} {R : Room} {s : State} {m : MethodId} {args : Array Value} {below : List Frame} {meth : Method} {c : Code} {H : Heap} {locs : List Loc} {cells slots : Nat} {Q : State → Prop}
variable {cc : ByteArray} {pc : Nat} {ls : Array Slot} {rest : List Value} {D : va_G} {g : Nat → ClassId} {A : Nat → Prop} {a b : Nat} {Bs Bs' : List va_W}
variable {LR : List Nat} {so rn : Nat → Nat} {ri : Nat → Nat → Int32} {rl : Nat → Nat → Int64}
theorem c_rk (hW : bW D g A s H locs Bs) : ∀ k : Nat, ∃ (K : Class) (cm : ClassId), s.vm.classes[g (rT k)]? = some K ∧ K.kind = .array cm (rTy k)
  | 0 => by obtain ⟨-, K, h1, cm, h2⟩ := (hW.1.2 2 _ rfl).1 0 (fun _ => .int 0); exact ⟨K, cm, h1, h2⟩
  | 1 => by obtain ⟨-, K, h1, cm, h2⟩ := (hW.1.2 3 _ rfl).1 0 (fun _ => .int 0); exact ⟨K, cm, h1, h2⟩
  | 2 => by obtain ⟨-, K, h1, cm, h2⟩ := (hW.1.2 0 _ rfl).1 0 (fun _ => .int 0); exact ⟨K, cm, h1, h2⟩
  | 3 => by obtain ⟨-, K, h1, cm, h2⟩ := (hW.1.2 1 _ rfl).1 0 (fun _ => .int 0); exact ⟨K, cm, h1, h2⟩
  | k + 4 => by obtain ⟨-, K, h1, cm, h2⟩ := (hW.1.2 4 _ rfl).1 0 (fun _ => .int 0); exact ⟨K, cm, h1, h2⟩
theorem c_size {cA : ClassId} {n : Nat} {f : Nat → Int32} {h : Nat → Int64} : ∀ k : Nat, (vp_cell cA (n, rF k f h)).slots.size = n
  | 0 => arrV_size _ _ _
  | 1 => arrV_size _ _ _
  | 2 => arrV_size _ _ _
  | 3 => arrV_size _ _ _
  | k + 4 => arrV_size _ _ _
theorem c_seen {v1 v2 : Value} {sp dp n : Int32} (h1 : v1.isRef = true) (h2 : v2.isRef = true) (x : Method) (hst : x.isStatic = true) (hps : x.sig.parameters = [.object "java/lang/Object", .int, .object "java/lang/Object", .int, .int]) : seenByNative x #[v1, .int sp, v2, .int dp, .int n] = #[v1, .int sp, v2, .int dp, .int n] := by
  cases v1 <;> cases v2 <;> first | (cases h2; done) | (cases h1; done) | (simp [seenByNative, hst, hps, narrow])
theorem c_words {v1 v2 : Value} {sp dp n : Int32} (h1 : v1.isRef = true) (h2 : v2.isRef = true) : operandWords [v1, .int sp, v2, .int dp, .int n] = 5 := by
  cases v1 <;> cases v2 <;> first | rfl | (cases h2; done) | (cases h1; done)
/-- a null -/
theorem b_cpyN (hx : p.tables.exec = Jvm.exec) (hb : c.code = cc) (hst : l.stackTraces = false) (hts : ∀ w ∈ lw_all, w.before args s = true) {own : String} {index : Nat} (hown : s.vm.findClass own = some m.cls) (hlink : (Cond.methodLink own index arraycopyName).before args s = true) (hnat : (Cond.native arraycopyName).before args s = true) (hstat : (Cond.static arraycopyName).before args s = true) (hini : (Cond.initialized "java/lang/System").before args s = true)
    (hW : bW D g A s H locs Bs) (hsize : ls.size = c.maxLocals) {v1 v2 : Value} {sp dp n : Int32} (hv : (v1 = .null ∧ v2.isRef = true) ∨ ((∃ z : Nat, v1 = .ref z) ∧ v2 = .null)) (hR : 8 < R.frames ∧ 10300 ≤ R.locals) (hrest : (rest.map fun v => v.category).sum ≤ 50) (hcs : cells + 1 ≤ R.cells ∧ slots + 8 ≤ R.slots) (hdg : decode cc pc = .ok (.invokestatic index, 3))
    (k : ∀ (H : Heap) (q : Nat) (ce : Cell), bW D g A s H locs Bs → H[q]? = some ce → ce.vm = .none → s.vm.findClass "java/lang/NullPointerException" = some ce.cls → vx_W p l e R s m args below meth c H locs (cells + 1) (slots + 8) Q (F0 m pc ls rest) q) :
    W p l e R s m args below meth c H locs cells slots Q (F0 m pc ls (.int n :: .int dp :: v2 :: .int sp :: v1 :: rest)) := by
  have r1 : v1.isRef = true := by rcases hv with ⟨rfl, -⟩ | ⟨⟨z, rfl⟩, -⟩ <;> rfl
  have r2 : v2.isRef = true := by rcases hv with ⟨-, h⟩ | ⟨-, rfl⟩; exact h; rfl
  refine c_native (kc := 1) (ks := 8) (cls := "java/lang/NullPointerException") (msg := none) (A := A) hx hb hown hlink hnat hstat hini hsize hdg (by have := hR.1; omega) (by have := hR.2; have : nativeFrameWords "java/lang/System" "arraycopy" 5 ≤ 200 := (by decide +kernel); omega) (c_seen r1 r2) (c_words r1 r2) (fun U fs E hU hA hE => ?_)
    (fun U hU X => c_npe hx hst (nb := 8) (xh_P hts hW.2.2.2.2.2) xg_P (b_eK hW).2.2.2.1 (b_eK hW).2.2.2.2.1 hW.2.2.2.1 hsize (by have := hR.1; omega) (by have := hR.2; omega) hcs.1 hcs.2 U hU X)
    (fun H1 q ce h1 h2 h3 h4 h5 h6 => k H1 q ce (b_new2 hW h2 h3) h4 h5 h6)
  rcases hv with ⟨rfl, -⟩ | ⟨⟨z, rfl⟩, rfl⟩
  · exact Jvm.W.arraycopy_null1 sp dp n v2 (hE _)
  · exact Jvm.W.arraycopy_null2 z sp dp n (hE _)
/-- two rows of two sorts -/
theorem b_cpyS (hx : p.tables.exec = Jvm.exec) (hb : c.code = cc) (hst : l.stackTraces = false) (hts : ∀ w ∈ lw_all, w.before args s = true) {own : String} {index : Nat} (hown : s.vm.findClass own = some m.cls) (hlink : (Cond.methodLink own index arraycopyName).before args s = true) (hnat : (Cond.native arraycopyName).before args s = true) (hstat : (Cond.static arraycopyName).before args s = true) (hini : (Cond.initialized "java/lang/System").before args s = true)
    (hW : bW D g A s H locs Bs) (pp : Nat) (hp : Bs[pp]? = some (pW g LR so rn ri rl)) (ha : a ∈ LR) (hb2 : b ∈ LR) (hne : rTy (so a) ≠ rTy (so b)) (hsize : ls.size = c.maxLocals) {sp dp n : Int32} (hR : 8 < R.frames ∧ 10300 ≤ R.locals) (hrest : (rest.map fun v => v.category).sum ≤ 50) (hcs : cells + 3 ≤ R.cells ∧ slots + 350 ≤ R.slots) (hdg : decode cc pc = .ok (.invokestatic index, 3))
    (k : ∀ (H : Heap) (q : Nat) (ce : Cell), bW D g A s H locs Bs → H[q]? = some ce → ce.vm = .none → s.vm.findClass "java/lang/ArrayStoreException" = some ce.cls → vx_W p l e R s m args below meth c H locs (cells + 3) (slots + 350) Q (F0 m pc ls rest) q) :
    W p l e R s m args below meth c H locs cells slots Q (F0 m pc ls (.int n :: .int dp :: .ref b :: .int sp :: .ref a :: rest)) := by
  obtain ⟨qa, hqa⟩ := r_cell (g := g) (so := so) (rn := rn) (ri := ri) (rl := rl) ha
  obtain ⟨qb, hqb⟩ := r_cell (g := g) (so := so) (rn := rn) (ri := ri) (rl := rl) hb2
  obtain ⟨ja, hja, -⟩ := b_loc Bs pp qa _ _ hp hqa
  obtain ⟨jb, hjb, -⟩ := b_loc Bs pp qb _ _ hp hqb
  have ca : H[a]? = some (vp_cell (g (rT (so a))) (rn a, rF (so a) (ri a) (rl a))) := hW.2.1 ja _ hja
  have cb : H[b]? = some (vp_cell (g (rT (so b))) (rn b, rF (so b) (ri b) (rl b))) := hW.2.1 jb _ hjb
  obtain ⟨Ka, ma, hKa, eKa⟩ := c_rk hW (so a)
  obtain ⟨Kb, mb, hKb, eKb⟩ := c_rk hW (so b)
  have hmis : ((refKind (rTy (so a)) != refKind (rTy (so b))) || (!refKind (rTy (so a)) && rTy (so a) != rTy (so b))) = true := by
    have hp1 : ∀ k : Nat, refKind (rTy k) = false := fun k => by rcases r5 k with h | h | h | h | ⟨j, h⟩ <;> subst h <;> rfl
    rw [hp1, hp1]
    simpa using hne
  refine c_native (kc := 3) (ks := 340 + 10) (cls := "java/lang/ArrayStoreException") (msg := some (c_msS (so a) (so b))) (A := A) hx hb hown hlink hnat hstat hini hsize hdg (by have := hR.1; omega) (by have := hR.2; have : nativeFrameWords "java/lang/System" "arraycopy" 5 ≤ 200 := (by decide +kernel); omega) (c_seen rfl rfl) (c_words rfl rfl) (fun U fs E hU hA hE => ?_)
    (fun U hU X => c_vm hx hst (nb := 340) (names := ["java/lang/RuntimeException", "java/lang/Exception"]) (by decide +kernel) (by decide +kernel) (by decide) (by decide) (xh_S hts hW.2.2.2.2.2) xg_S (b_eK hW).2.2.2.1 (b_eK hW).2.2.2.2.1 hW.2.2.2.1 hsize (c_mis _ _).1 (c_mis _ _).2 (by decide) (by show _ + 5 < _; have := hR.1; simp; omega) (by have := hR.2; omega) (by simp) hcs.1 hcs.2 U hU X)
    (fun H1 q ce h1 h2 h3 h4 h5 h6 => k H1 q ce (b_new2 hW h2 h3) h4 h5 h6)
  obtain ⟨Ka', hKa', ea⟩ := hA.2.2 _ _ hKa
  obtain ⟨Kb', hKb', eb⟩ := hA.2.2 _ _ hKb
  exact Jvm.W.arraycopy_types (s := U.setFrames fs) (ks := Ka') (kd := Kb') (by show U.heap[a]? = _; rw [hU]; exact ca) (by show U.heap[b]? = _; rw [hU]; exact cb) (fun y => by rw [(r_cls _).1]; intro h; cases h) (fun y => by rw [(r_cls _).1]; intro h; cases h) (by rw [(r_cls _).2]; exact hKa') (by rw [(r_cls _).2]; exact hKb') (by rw [ea]; exact eKa) (by rw [eb]; exact eKb) hmis (hE _)
/-- the ints that do not fit -/
theorem b_cpyA (hx : p.tables.exec = Jvm.exec) (hb : c.code = cc) (hst : l.stackTraces = false) (hts : ∀ w ∈ lw_all, w.before args s = true) {own : String} {index : Nat} (hown : s.vm.findClass own = some m.cls) (hlink : (Cond.methodLink own index arraycopyName).before args s = true) (hnat : (Cond.native arraycopyName).before args s = true) (hstat : (Cond.static arraycopyName).before args s = true) (hini : (Cond.initialized "java/lang/System").before args s = true)
    (hW : bW D g A s H locs Bs) (pp : Nat) (hp : Bs[pp]? = some (pW g LR so rn ri rl)) (ha : a ∈ LR) (hb2 : b ∈ LR) (heq : rTy (so a) = rTy (so b)) (hna : rn a < 2147483648) (hnb : rn b < 2147483648) (hsize : ls.size = c.maxLocals) {sp dp n : Int32} (hout : ¬ o_cpy sp dp n (rn a) (rn b) = true) (hR : 8 < R.frames ∧ 10300 ≤ R.locals) (hrest : (rest.map fun v => v.category).sum ≤ 50) (hcs : cells + 3 ≤ R.cells ∧ slots + 350 ≤ R.slots) (hdg : decode cc pc = .ok (.invokestatic index, 3))
    (k : ∀ (H : Heap) (q : Nat) (ce : Cell), bW D g A s H locs Bs → H[q]? = some ce → ce.vm = .none → s.vm.findClass "java/lang/ArrayIndexOutOfBoundsException" = some ce.cls → vx_W p l e R s m args below meth c H locs (cells + 3) (slots + 350) Q (F0 m pc ls rest) q) :
    W p l e R s m args below meth c H locs cells slots Q (F0 m pc ls (.int n :: .int dp :: .ref b :: .int sp :: .ref a :: rest)) := by
  obtain ⟨qa, hqa⟩ := r_cell (g := g) (so := so) (rn := rn) (ri := ri) (rl := rl) ha
  obtain ⟨qb, hqb⟩ := r_cell (g := g) (so := so) (rn := rn) (ri := ri) (rl := rl) hb2
  obtain ⟨ja, hja, -⟩ := b_loc Bs pp qa _ _ hp hqa
  obtain ⟨jb, hjb, -⟩ := b_loc Bs pp qb _ _ hp hqb
  have ca : H[a]? = some (vp_cell (g (rT (so a))) (rn a, rF (so a) (ri a) (rl a))) := hW.2.1 ja _ hja
  have cb : H[b]? = some (vp_cell (g (rT (so b))) (rn b, rF (so b) (ri b) (rl b))) := hW.2.1 jb _ hjb
  obtain ⟨Ka, ma, hKa, eKa⟩ := c_rk hW (so a)
  obtain ⟨Kb, mb, hKb, eKb⟩ := c_rk hW (so b)
  obtain ⟨w, hw, hwl⟩ := c_fault (k := so a) hna hnb hout
  have hmis : ((refKind (rTy (so a)) != refKind (rTy (so b))) || (!refKind (rTy (so a)) && rTy (so a) != rTy (so b))) = false := by
    have hp1 : ∀ k : Nat, refKind (rTy k) = false := fun k => by rcases r5 k with h | h | h | h | ⟨j, h⟩ <;> subst h <;> rfl
    rw [hp1, hp1]
    simpa using heq
  refine c_native (kc := 3) (ks := 340 + 10) (cls := "java/lang/ArrayIndexOutOfBoundsException") (msg := some ("arraycopy: " ++ w)) (A := A) hx hb hown hlink hnat hstat hini hsize hdg (by have := hR.1; omega) (by have := hR.2; have : nativeFrameWords "java/lang/System" "arraycopy" 5 ≤ 200 := (by decide +kernel); omega) (c_seen rfl rfl) (c_words rfl rfl) (fun U fs E hU hA hE => ?_)
    (fun U hU X => c_vm hx hst (nb := 340) (names := ["java/lang/IndexOutOfBoundsException", "java/lang/RuntimeException", "java/lang/Exception"]) (by decide +kernel) (by decide +kernel) (by decide) (by decide) (xh_A hts hW.2.2.2.2.2) xg_A (b_eK hW).2.2.2.1 (b_eK hW).2.2.2.2.1 hW.2.2.2.1 hsize (c_text hwl).1 (c_text hwl).2 (by decide) (by show _ + 5 < _; have := hR.1; simp; omega) (by have := hR.2; omega) (by simp) hcs.1 hcs.2 U hU X)
    (fun H1 q ce h1 h2 h3 h4 h5 h6 => k H1 q ce (b_new2 hW h2 h3) h4 h5 h6)
  obtain ⟨Ka', hKa', ea⟩ := hA.2.2 _ _ hKa
  obtain ⟨Kb', hKb', eb⟩ := hA.2.2 _ _ hKb
  exact Jvm.W.arraycopy_bounds (s := U.setFrames fs) (ks := Ka') (kd := Kb') (sType := rTy (so a)) (dType := rTy (so b)) (by show U.heap[a]? = _; rw [hU]; exact ca) (by show U.heap[b]? = _; rw [hU]; exact cb) (fun y => by rw [(r_cls _).1]; intro h; cases h) (fun y => by rw [(r_cls _).1]; intro h; cases h) (by rw [(r_cls _).2]; exact hKa') (by rw [(r_cls _).2]; exact hKb') (by rw [ea]; exact eKa) (by rw [eb]; exact eKb) hmis (by rw [c_size, c_size, ← heq]; exact hw) (hE _)
end CPW
