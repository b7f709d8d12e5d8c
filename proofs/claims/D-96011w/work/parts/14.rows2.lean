/-! ROWS, second: array copies, Arrays.fill, goers in arrays, instanceof of goers -/
set_option maxRecDepth 100000
def gAll (L : List Nat) (kd : Nat → Nat) (f : Nat → Option Nat) (n : Nat) : Bool := (List.range n).all fun j => match f j with | none => true | some a => gIn L kd a
theorem gAll_1 {L : List Nat} {kd : Nat → Nat} {f : Nat → Option Nat} {n j a : Nat} (h : gAll L kd f n = true) (hj : j < n) (e : f j = some a) : gIn L kd a = true := by
  have h1 := List.all_eq_true.mp h j (List.mem_range.mpr hj)
  rw [e] at h1
  exact h1
def gBk (k : Nat) : Bool := k == 1 || k == 2 || k == 4 || k == 5
def gOw (k : Nat) : Bool := k == 3
def fillF (f : Nat → Int32) (n : Nat) (x : Int32) : Nat → Int32 := fun j => if j < n then x else f j
theorem fillF_0 (f : Nat → Int32) (x : Int32) : fillF f 0 x = f := by funext j; simp [fillF]
theorem fillF_s (f : Nat → Int32) (n : Nat) (x : Int32) : upd (fillF f n x) n x = fillF f (n + 1) x := by
  funext j
  simp only [upd, fillF]
  split
  · rename_i h; subst h; simp
  · rename_i h
    by_cases h2 : j < n
    · rw [if_pos h2, if_pos (by omega)]
    · rw [if_neg h2, if_neg (by omega)]
theorem l_setself {w : va_W} {q : Nat} {x : Nat × va_E} (h : w[q]? = some x) : w.set q x = w := by
  apply List.ext_getElem?
  intro j
  by_cases e : q = j
  · subst e
    rw [List.getElem?_set_self (List.getElem?_eq_some_iff.mp h).1, h]
  · rw [List.getElem?_set_ne e]
theorem g_tbB : ∀ k, k < 6 → (if gBk k then (gC k = "EverybodyHasTheBook$Booked" ∨ (gC k, "EverybodyHasTheBook$Booked") ∈ xwC) else (gC k, "EverybodyHasTheBook$Booked") ∈ xwN) := by decide +kernel
theorem g_tbO : ∀ k, k < 6 → (if gOw k then (gC k = "EverybodyHasTheBook$Own" ∨ (gC k, "EverybodyHasTheBook$Own") ∈ xwC) else (gC k, "EverybodyHasTheBook$Own") ∈ xwN) := by decide +kernel
theorem g_tbG : ∀ k, k < 6 → (if (fun _ : Nat => true) k then (gC k = "EverybodyHasTheBook$Goer" ∨ (gC k, "EverybodyHasTheBook$Goer") ∈ xwC) else (gC k, "EverybodyHasTheBook$Goer") ∈ xwN) := by decide +kernel
section RW2
variable {p : Program} {l : Launch} {e : Env} {R : Room} {s : State} {m : MethodId} {args : Array Value} {below : List Frame} {meth : Method} {c : Code} {H : Heap} {locs : List Loc} {cells slots : Nat} {Q : State → Prop}
variable {cc : ByteArray} {pc : Nat} {ls : Array Slot} {rest : List Value} {D : va_G} {g : Nat → ClassId} {A : Nat → Prop} {a : Nat} {Bs Bs' : List va_W} {w w' : va_W}
variable {L : List Nat} {kd : Nat → Nat} {nu aa : Nat → Int32}
theorem g_asg (hW : bW D g A s H locs Bs) : ∀ k, k < 6 → ∀ comp c0 : ClassId, s.vm.findClass "EverybodyHasTheBook$Goer" = some comp → s.vm.findClass (gC k) = some c0 → s.vm.assignable c0 comp = true := by
  intro k hk comp c0 h1 h2
  have hX := hW.2.2.2.2.2.2.2.1
  have key : ∀ C : String, (C, "EverybodyHasTheBook$Goer") ∈ xwC → s.vm.findClass C = some c0 → s.vm.assignable c0 comp = true := by
    intro C hC hc
    obtain ⟨c1, t1, f1, f2, f3⟩ := Cond.castable_spec (va_Nw.use (A := #[]) rfl (hX _ hC))
    cases hc.symm.trans f1
    cases h1.symm.trans f2
    exact f3
  match k, hk, h2 with
  | 0, _, h2 =>
    have e1 : comp = c0 := Option.some.inj (h1.symm.trans h2)
    subst e1
    exact va_assign (C := "EverybodyHasTheBook$Goer") ⟨h1, by
      have := g_at hW (k := 0) (by decide)
      obtain ⟨q1, kC, q2, q3⟩ := this
      have e2 : D.1 (5 + 0) = comp := Option.some.inj (q1.symm.trans h2)
      exact ⟨kC, by rw [← e2]; exact q2, q3⟩⟩
  | 1, _, h2 => exact key RX6 (by decide +kernel) h2
  | 2, _, h2 => exact key RX7 (by decide +kernel) h2
  | 3, _, h2 => exact key RX8 (by decide +kernel) h2
  | 4, _, h2 => exact key RX9 (by decide +kernel) h2
  | 5, _, h2 => exact key RX10 (by decide +kernel) h2
theorem g_any (hW : bW D g A s H locs Bs) (pp : Nat) (hp : Bs[pp]? = some (gW L kd nu aa)) (hz : gIn L kd a = true) : va_Any "EverybodyHasTheBook$Goer" s H a := by
  obtain ⟨h1, h2⟩ := gIn_1 hz
  obtain ⟨k, hk⟩ := g_cell (kd := kd) (nu := nu) (aa := aa) h1
  obtain ⟨j, hj, -⟩ := b_loc Bs pp k _ _ hp hk
  exact va_rAny hW.1 hW.2.1 hj (gCL _ h2) (g_asg hW _ h2)
theorem b_astG (hx : p.tables.exec = Jvm.exec) (hb : c.code = cc) (hW : bW D g A s H locs Bs) (pp q pg : Nat) (hp : Bs[pp]? = some w) (hpg : Bs[pg]? = some (gW L kd nu aa)) {v : Nat} (hz : gIn L kd v = true) {n : Nat} {f : Nat → Option Nat} (hq : w[q]? = some (a, .inl (g 5, n, .inr (.inr (.inr (.inr f)))))) {i : Int32} (hs : w.set q (a, .inl (g 5, n, .inr (.inr (.inr (.inr (va_up f (ix i) (some v))))))) = w') (hB : Bs.set pp w' = Bs') (hin : inB i n = true) (hdg : decode cc pc = .ok (.aastore, 1))
    (kk : ∀ (H : Heap) (locs : List Loc), bW D g A s H locs Bs' → W p l e R s m args below meth c H locs cells slots Q (F0 m (pc + 1) ls rest)) : W p l e R s m args below meth c H locs cells slots Q (F0 m pc ls (.ref v :: .int i :: .ref a :: rest)) := by
  have hany := g_any hW pg hpg hz
  obtain ⟨k, hk, hset⟩ := b_loc Bs pp q w _ hp hq
  obtain ⟨h1, h2, h3, h4, h5⟩ := hW
  refine va_astqM hx hb h1 h2 h3 h4 k 5 hk rfl hany (inB_in hin) hdg fun H1 l1 hP hD hS => ?_
  rw [hset, hs, hB] at hP hD
  exact kk H1 l1 ⟨h1, hP, hD, hS, h5⟩
theorem b_cpI (hx : p.tables.exec = Jvm.exec) (hb : c.code = cc) (hml : c.maxLocals = ls.size) {own : String} {index : Nat} (hown : s.vm.findClass own = some m.cls) (hlink : (Cond.methodLink own index arraycopyName).before args s = true) (hnat : (Cond.native arraycopyName).before args s = true) (hstat : (Cond.static arraycopyName).before args s = true) (hini : (Cond.initialized "java/lang/System").before args s = true)
    (hW : bW D g A s H locs Bs) (pp q p2 q2 : Nat) {w0 : va_W} {a0 n0 n1 : Nat} {f h : Nat → Int32} (hp0 : Bs[pp]? = some w0) (hq0 : w0[q]? = some (a0, .inl (g 0, n0, .inl f))) (hp : Bs[p2]? = some w) (hq : w[q2]? = some (a, .inl (g 0, n1, .inl h)))
    {sp dp n : Int32} (hs : w.set q2 (a, .inl (g 0, n1, .inl (va_cpy f h (ix sp) (ix dp) (ix n)))) = w') (hB : Bs.set p2 w' = Bs') (h1 : ¬ sp < 0) (h2 : ¬ dp < 0) (h3 : ¬ n < 0) (h4 : ix sp + ix n ≤ n0) (h5 : ix dp + ix n ≤ n1)
    (hframes : 1 ≤ R.frames) (hlocals : (rest.map fun v => v.category).sum + (nativeFrameWords "java/lang/System" "arraycopy" 5 + 11) ≤ R.locals) (hdg : decode cc pc = .ok (.invokestatic index, 3))
    (kk : ∀ (H : Heap) (locs : List Loc), bW D g A s H locs Bs' → W p l e R s m args below meth c H locs cells slots Q (F0 m (pc + 3) ls rest)) : W p l e R s m args below meth c H locs cells slots Q (F0 m pc ls (.int n :: .int dp :: .ref a :: .int sp :: .ref a0 :: rest)) := by
  obtain ⟨k0, hk0, -⟩ := b_loc Bs pp q w0 _ hp0 hq0
  obtain ⟨k, hk, hset⟩ := b_loc Bs p2 q2 w _ hp hq
  obtain ⟨g1, g2, g3, g4, g5⟩ := hW
  refine va_copyi hx hb hml hown hlink hnat hstat hini g1 g2 g3 g4 k0 k 0 0 (ty := .int) hk0 hk rfl rfl rfl h1 h2 h3 h4 h5 (fun i _ => rfl) hframes hlocals hdg fun H1 l1 hP hD hS => ?_
  rw [hset, hs, hB] at hP hD
  exact kk H1 l1 ⟨g1, hP, hD, hS, g5⟩
theorem b_cpG (hx : p.tables.exec = Jvm.exec) (hb : c.code = cc) (hml : c.maxLocals = ls.size) {own : String} {index : Nat} (hown : s.vm.findClass own = some m.cls) (hlink : (Cond.methodLink own index arraycopyName).before args s = true) (hnat : (Cond.native arraycopyName).before args s = true) (hstat : (Cond.static arraycopyName).before args s = true) (hini : (Cond.initialized "java/lang/System").before args s = true)
    (hW : bW D g A s H locs Bs) (pp q p2 q2 pg : Nat) {w0 : va_W} {a0 n0 n1 : Nat} {f h : Nat → Option Nat} (hp0 : Bs[pp]? = some w0) (hq0 : w0[q]? = some (a0, .inl (g 5, n0, .inr (.inr (.inr (.inr f)))))) (hp : Bs[p2]? = some w) (hq : w[q2]? = some (a, .inl (g 5, n1, .inr (.inr (.inr (.inr h)))))) (hpg : Bs[pg]? = some (gW L kd nu aa)) (hall : gAll L kd f n0 = true)
    {n : Int32} (hs : w.set q2 (a, .inl (g 5, n1, .inr (.inr (.inr (.inr (va_cpy f h (ix 0) (ix 0) (ix n))))))) = w') (hB : Bs.set p2 w' = Bs') (h3 : ¬ n < 0) (h4 : ix 0 + ix n ≤ n0) (h5 : ix 0 + ix n ≤ n1)
    (hframes : 1 ≤ R.frames) (hlocals : (rest.map fun v => v.category).sum + (nativeFrameWords "java/lang/System" "arraycopy" 5 + 11) ≤ R.locals) (hdg : decode cc pc = .ok (.invokestatic index, 3))
    (kk : ∀ (H : Heap) (locs : List Loc), bW D g A s H locs Bs' → W p l e R s m args below meth c H locs cells slots Q (F0 m (pc + 3) ls rest)) : W p l e R s m args below meth c H locs cells slots Q (F0 m pc ls (.int n :: .int 0 :: .ref a :: .int 0 :: .ref a0 :: rest)) := by
  have hel : ∀ i : Nat, i < n.toNatClampNeg → ∀ y : Nat, f ((0 : Int32).toNatClampNeg + i) = some y → va_Any "EverybodyHasTheBook$Goer" s H y := by
    intro i hi y hy
    have e0 : ix 0 = 0 := by decide
    exact g_any hW pg hpg (gAll_1 hall (j := (0 : Int32).toNatClampNeg + i) (by have := h4; simp only [ix] at *; omega) hy)
  obtain ⟨k0, hk0, -⟩ := b_loc Bs pp q w0 _ hp0 hq0
  obtain ⟨k, hk, hset⟩ := b_loc Bs p2 q2 w _ hp hq
  obtain ⟨g1, g2, g3, g4, g5⟩ := hW
  refine va_copyM hx hb hml hown hlink hnat hstat hini g1 g2 g3 g4 k0 k 5 5 hk0 hk rfl rfl (by decide) (by decide) h3 h4 h5 hel hframes hlocals hdg fun H1 l1 hP hD hS => ?_
  rw [hset, hs, hB] at hP hD
  exact kk H1 l1 ⟨g1, hP, hD, hS, g5⟩
/-- instanceof, by the kind: T is met by the kinds that tb says -/
theorem b_instG (hx : p.tables.exec = Jvm.exec) (hb : c.code = cc) {own nm : String} {index : Nat} (hown : s.vm.findClass own = some m.cls) (hlink : (Cond.classLink own index nm).before args s = true) (hW : bW D g A s H locs Bs) (pp : Nat) (hp : Bs[pp]? = some (gW L kd nu aa)) (hz : gIn L kd a = true) (tb : Nat → Bool) (htb : ∀ k, k < 6 → (if tb k then (gC k = nm ∨ (gC k, nm) ∈ xwC) else (gC k, nm) ∈ xwN)) (hdg : decode cc pc = .ok (.instanceof index, 3))
    (kk : W p l e R s m args below meth c H locs cells slots Q (F0 m (pc + 3) ls (.int (if tb (kd a) = true then 1 else 0) :: rest))) : W p l e R s m args below meth c H locs cells slots Q (F0 m pc ls (.ref a :: rest)) := by
  obtain ⟨h1, h2⟩ := gIn_1 hz
  have hr := g_recv hW pp hp hz
  have hat := g_at hW h2
  have hX := hW.2.2.2.2.2
  have ht := htb _ h2
  cases hc : tb (kd a) with
  | true =>
    rw [hc] at ht kk
    rcases (show gC (kd a) = nm ∨ (gC (kd a), nm) ∈ xwC from ht) with q | q
    · rw [q] at hr hat
      exact va_instS hx hb hown hlink hat hr hdg kk
    · exact va_instY hx hb hown hlink (hX.2.2.1 _ q) hr hdg kk
  | false =>
    rw [hc] at ht kk
    exact va_instNo hx hb hown hlink (hX.2.2.2.1 _ ht) hr hdg kk
end RW2
abbrev rm_J16_fill : Room := { frames := 0, cells := 0, slots := 0, locals := 0 }
set_option maxHeartbeats 4000000 in
theorem m_J16_fill (l : Launch) (D : va_G) (g : Nat → ClassId) (sz : Nat) (w w' : va_W) (q a n : Nat) (f : Nat → Int32) (x : Int32) (hn : n < 2 ^ 31) (hq : w[q]? = some (a, .inl (g 0, n, .inl f))) (hs : w.set q (a, .inl (g 0, n, .inl (fillF f n x))) = w') : bMet (S := Unit) l yJ16_fill (ws_ yJ16_fill cJ16_fill 4 none) rm_J16_fill D g sz [.ref a, .int x] [w] (fun _ => True) (fun _ => none) (fun _ => [w']) := by
  refine b_met (by decide) (Nat.le_of_ble_eq_true rfl) ?_
  intro p e s m args below meth c A Q ls hx hb hml hr hlk hown hname hts hE hl hW
  revert hW; generalize s.heap = H; intro hW
  have hl : lv_has ls 4 [(0, .ref a), (1, .int x)] := hl
  refine lv_iconst (v := 0) hx hb dJ16_fill_0 (by decide) ?_
  refine lv_istore_n (lv' := [(2, .int 0), (0, .ref a), (1, .int x)]) hx hb dJ16_fill_1 rfl hl (by decide) rfl (fun ls hl => ?_)
  refine lv_aload_n hx hb dJ16_fill_2 rfl (lv_at hl 1 rfl) ?_
  refine b_alen hx hb hW 0 q 0 rfl hq rfl (v := nI n) rfl dJ16_fill_3 ?_
  refine lv_istore_n (lv' := [(3, .int (nI n)), (2, .int 0), (0, .ref a), (1, .int x)]) hx hb dJ16_fill_4 rfl hl (by decide) rfl (fun ls hl => ?_)
  have hlt : q < w.length := (List.getElem?_eq_some_iff.mp hq).1
  have LP : ∀ (d k : Nat) (wk : va_W) (H : Heap) (locs : List Loc) (ls : Array Slot), k + d = n → wk = w.set q (a, .inl (g 0, n, .inl (fillF f k x))) → bW D g A s H locs [wk] → lv_has ls 4 [(3, .int (nI n)), (2, .int (nI k)), (0, .ref a), (1, .int x)] → W p l e rm_J16_fill s m args below meth c H locs 0 0 Q (F0 m 5 ls []) := by
    intro d
    induction d with
    | zero =>
      intro k wk H locs ls hk hwk hW hl
      have hkn : k = n := by omega
      subst hkn
      refine lv_iload_n hx hb dJ16_fill_5 rfl (lv_at hl 1 rfl) ?_
      refine lv_iload_n hx hb dJ16_fill_6 rfl (lv_at hl 0 rfl) ?_
      refine lv_icmp_ge (tgt := 20) hx hb dJ16_fill_7 (by decide) (fun _ => ?_) (fun hc => absurd (nI_le (Nat.le_refl _) hn) hc)
      exact b_vret hx hb hr hlk hE hW () (by rw [hwk, hs]) trivial rfl dJ16_fill_20
    | succ d ih =>
      intro k wk H locs ls hk hwk hW hl
      refine lv_iload_n hx hb dJ16_fill_5 rfl (lv_at hl 1 rfl) ?_
      refine lv_iload_n hx hb dJ16_fill_6 rfl (lv_at hl 0 rfl) ?_
      refine lv_icmp_ge (tgt := 20) hx hb dJ16_fill_7 (by decide) (fun hc => absurd hc (nI_ge (by omega) hn)) (fun _ => ?_)
      refine lv_aload_n hx hb dJ16_fill_10 rfl (lv_at hl 2 rfl) ?_
      refine lv_iload_n hx hb dJ16_fill_11 rfl (lv_at hl 1 rfl) ?_
      refine lv_iload_n hx hb dJ16_fill_12 rfl (lv_at hl 3 rfl) ?_
      have hix : ix (nI k) = k := nI_clamp (by omega)
      have hin : inB (nI k) n = true := by
        simp only [inB, hix, Bool.and_eq_true, Bool.not_eq_true', decide_eq_false_iff_not, decide_eq_true_eq]
        exact ⟨nI_pos (by omega), by omega⟩
      refine b_iast (w' := w.set q (a, .inl (g 0, n, .inl (fillF f (k + 1) x)))) (f := fillF f k x) hx hb hW 0 q rfl (by rw [hwk]; exact List.getElem?_set_self hlt) (by rw [hwk, List.set_set, hix, fillF_s]) rfl hin dJ16_fill_13 (fun H locs hW => ?_)
      refine lv_iinc (v := nI (k + 1)) (lv' := [(2, .int (nI (k + 1))), (3, .int (nI n)), (0, .ref a), (1, .int x)]) hx hb dJ16_fill_14 hl (k := 1) rfl (by rw [nI_succ]; rfl) (by decide) rfl (fun ls hl => ?_)
      refine lv_goto (tgt := 5) hx hb dJ16_fill_17 (by decide) ?_
      exact ih (k + 1) _ H locs ls (by omega) rfl hW (lv_sub hl [1, 0, 2, 3] rfl)
  exact LP n 0 w H [] ls (by omega) (by rw [fillF_0]; exact (l_setself hq).symm) hW (lv_sub hl [0, 1, 2, 3] rfl)
theorem b_lret {p : Program} {l : Launch} {e : Env} {s : State} {m : MethodId} {args : Array Value} {below : List Frame} {meth : Method} {c : Code} {H : Heap} {locs : List Loc} {Q : State → Prop} {cc : ByteArray} {pc : Nat} {ls : Array Slot} {D : va_G} {g : Nat → ClassId} {A : Nat → Prop} {Bs' : List va_W} {S : Type} {rm : Room} {ok : S → Prop} {rv : S → Option Value} {w1 : S → List va_W} {B0 : List va_W} (hx : p.tables.exec = Jvm.exec) (hb : c.code = cc) (hr : meth.sig.returnType = some .long) (hlk : meth.locks = false) (hE : bE below args s rm D A B0 ok rv w1 Q) (hW : bW D g A s H locs Bs') (u : S) (hw : Bs' = w1 u) (hok : ok u) {v : Int64} (hv : some (.long v) = rv u) (hdg : decode cc pc = .ok (.lreturn, 1)) : W p l e rm s m args below meth c H locs rm.cells rm.slots Q (F0 m pc ls [.long v]) := by
  have h := bE_q hE hW u hw hok hv
  rw [hE.1]
  exact W.lret hx hb hr h.1 h.2 hdg hlk
theorem b_getN {p : Program} {l : Launch} {e : Env} {R : Room} {s : State} {m : MethodId} {args : Array Value} {below : List Frame} {meth : Method} {c : Code} {H : Heap} {locs : List Loc} {cells slots : Nat} {Q : State → Prop} {cc : ByteArray} {pc : Nat} {ls : Array Slot} {rest : List Value} {D : va_G} {g : Nat → ClassId} {A : Nat → Prop} {a : Nat} {Bs : List va_W} {w : va_W} (hx : p.tables.exec = Jvm.exec) (hb : c.code = cc) {own ref host C : String} {T : u_T} {N index : Nat} (hts : ∀ w ∈ lw_all, w.before args s = true) (hin : ∀ w ∈ u_ws C T N, w ∈ lw_all) (hown : s.vm.findClass own = some m.cls) (hW : bW D g A s H locs Bs) (pp q ci k : Nat) (hp : Bs[pp]? = some w) {fs : List Value} (hq : w[q]? = some (a, .inr (ci, fs))) (hc : CL[ci]? = some (C, T, N)) (hk : k < N) {nm ds : String} (hT : (T k).2.1 = nm ∧ (T k).2.2.1 = ds ∧ (T k).1 = ref) (hlink : (Cond.fieldLinkNest own index ref nm ds host).before args s = true) {v : Value} (hv : fs[k]? = some v) (hdg : decode cc pc = .ok (.getfield index, 3))
    (kk : W p l e R s m args below meth c H locs cells slots Q (F0 m (pc + 3) ls (v :: rest))) : W p l e R s m args below meth c H locs cells slots Q (F0 m pc ls (.ref a :: rest)) := by
  obtain ⟨j, hj, -⟩ := b_loc Bs pp q w _ hp hq
  obtain ⟨rfl, rfl, rfl⟩ := hT
  exact va_getN hx hb hts hin hown hW.1 hW.2.1 j hj hc k hk hlink (fun _ h => h) hv hdg kk
