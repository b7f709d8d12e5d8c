/-! THE ROWS of the shelves: arrays of five sorts, a pool by address -/
set_option maxRecDepth 100000
def rT : Nat → Nat
  | 0 => 2
  | 1 => 3
  | 2 => 0
  | 3 => 1
  | _ => 4
def rN : Nat → String
  | 0 => "[B"
  | 1 => "[S"
  | 2 => "[I"
  | 3 => "[J"
  | _ => "[Z"
def rF (k : Nat) (f : Nat → Int32) (h : Nat → Int64) : (Nat → Int32) ⊕ (Nat → Int64) ⊕ (Nat → UInt32) ⊕ (Nat → UInt64) ⊕ (Nat → Option Nat) := match k with
  | 3 => .inr (.inl h)
  | _ => .inl f
def rE (g : Nat → ClassId) (k n : Nat) (f : Nat → Int32) (h : Nat → Int64) : va_E := .inl (g (rT k), n, rF k f h)
/-- the rows: addresses, sorts, lengths, what they hold -/
def pW (g : Nat → ClassId) (LR : List Nat) (so rn : Nat → Nat) (ri : Nat → Nat → Int32) (rl : Nat → Nat → Int64) : va_W := va_pl LR (fun a => rE g (so a) (rn a) (ri a) (rl a))
theorem r5 (n : Nat) : n = 0 ∨ n = 1 ∨ n = 2 ∨ n = 3 ∨ ∃ j, n = j + 4 := by
  rcases (show n = 0 ∨ n = 1 ∨ n = 2 ∨ n = 3 ∨ 4 ≤ n by omega) with h | h | h | h | h
  · exact Or.inl h
  · exact Or.inr (Or.inl h)
  · exact Or.inr (Or.inr (Or.inl h))
  · exact Or.inr (Or.inr (Or.inr (Or.inl h)))
  · exact Or.inr (Or.inr (Or.inr (Or.inr ⟨n - 4, by omega⟩)))
def q_k5 (k : Nat) (A0 A1 A2 A3 A4 : Prop) : Prop := match k with
  | 0 => A0
  | 1 => A1
  | 2 => A2
  | 3 => A3
  | _ => A4
theorem inB_out {i : Int32} {n : Nat} (h : ¬ inB i n = true) : ¬ vp_in i n := fun hv => h (by
  simp only [inB, Bool.and_eq_true, Bool.not_eq_true', decide_eq_false_iff_not, decide_eq_true_eq]
  exact ⟨fun q => hv (Or.inl q), Nat.not_le.mp fun q => hv (Or.inr q)⟩)
theorem b_Dblk : ∀ (Bs : List va_W) (pp : Nat) (w : va_W) (A : Nat → Prop), va_D A Bs.flatten → Bs[pp]? = some w → va_D A w := by
  intro Bs
  induction Bs with
  | nil => intro pp w A _ h; simp at h
  | cons b Bs ih =>
    intro pp w A h hp
    have h2 : va_D A (b ++ Bs.flatten) := h
    cases pp with
    | zero =>
      have hb : b = w := by simpa using hp
      subst hb
      exact (b_Dapp h2).1
    | succ pp => exact ih pp w A (b_Dapp h2).2.1 (by simpa using hp)
theorem r_id {α : Type} (f : Nat → α) (z : Nat) : (fun a => if a = z then f z else f a) = f := funext fun a => by by_cases h : a = z <;> simp [h]
section RRW
variable {p : Program} {l : Launch} {e : Env} {R : Room} {s : State} {m : MethodId} {args : Array Value} {below : List Frame} {meth : Method} {c : Code} {H : Heap} {locs : List Loc} {cells slots : Nat} {Q : State → Prop}
variable {cc : ByteArray} {pc : Nat} {ls : Array Slot} {rest : List Value} {D : va_G} {g : Nat → ClassId} {A : Nat → Prop} {z : Nat} {Bs Bs' : List va_W} {w w' : va_W}
variable {LR : List Nat} {so rn : Nat → Nat} {ri : Nat → Nat → Int32} {rl : Nat → Nat → Int64}
theorem r_cell (h : z ∈ LR) : ∃ q : Nat, (pW g LR so rn ri rl)[q]? = some (z, rE g (so z) (rn z) (ri z) (rl z)) := by
  obtain ⟨k, hk⟩ := va_pl_get (X := []) (f := fun a => rE g (so a) (rn a) (ri a) (rl a)) h
  exact ⟨k, by simpa [pW] using hk⟩
theorem r_up {F : Nat → Int32} {G : Nat → Int64} {E : va_E} (e : rE g (so z) (rn z) F G = E) : va_pl LR (va_up (fun a => rE g (so a) (rn a) (ri a) (rl a)) z E) = pW g LR so rn (fun a => if a = z then F else ri a) (fun a => if a = z then G else rl a) := by
  subst e
  unfold pW
  apply va_pl_congr
  intro a
  by_cases h : a = z
  · subst h; simp [va_up_self]
  · simp [va_up_ne _ _ h, h]
theorem r_set {E : va_E} {F : Nat → Int32} {G : Nat → Int64} {q : Nat} (hW : bW D g A s H locs Bs) {pp : Nat} (hp : Bs[pp]? = some (pW g LR so rn ri rl)) (hz : z ∈ LR) (hq : (pW g LR so rn ri rl)[q]? = some (z, rE g (so z) (rn z) (ri z) (rl z))) (e : rE g (so z) (rn z) F G = E) : (pW g LR so rn ri rl).set q (z, E) = pW g LR so rn (fun a => if a = z then F else ri a) (fun a => if a = z then G else rl a) := by
  have hD := b_Dblk Bs pp _ A hW.2.2.1 hp
  have h1 := va_pl_set (A := A) (X := []) (L := LR) (f := fun a => rE g (so a) (rn a) (ri a) (rl a)) (e := E) (by simpa [pW] using hD) hz (by simpa [pW] using hq)
  have h2 : (pW g LR so rn ri rl).set q (z, E) = va_pl LR (va_up (fun a => rE g (so a) (rn a) (ri a) (rl a)) z E) := by simpa [pW] using h1
  rw [h2, r_up e]
/-- the class of a row -/
theorem r_nm (hW : bW D g A s H locs Bs) : ∀ k : Nat, s.vm.findClass (rN k) = some (g (rT k))
  | 0 => va_nm_byte (hW.1.2 2 _ rfl).2
  | 1 => va_nm_short (hW.1.2 3 _ rfl).2
  | 2 => va_nm_int (hW.1.2 0 _ rfl).2
  | 3 => va_nm_long (hW.1.2 1 _ rfl).2
  | k + 4 => va_nm_boolean (hW.1.2 4 _ rfl).2
theorem r_cls {cA : ClassId} (x : vp_A) : (vp_cell cA x).vm = .none ∧ (vp_cell cA x).cls = cA := by
  obtain ⟨n, f | f | f | f | f⟩ := x <;> exact ⟨rfl, rfl⟩
theorem r_recv (hW : bW D g A s H locs Bs) (pp : Nat) (hp : Bs[pp]? = some (pW g LR so rn ri rl)) (hz : z ∈ LR) {k : Nat} (hk : so z = k) : ∃ cell : Cell, H[z]? = some cell ∧ cell.vm.isStatics = false ∧ s.vm.findClass (rN k) = some cell.cls := by
  obtain ⟨q, hq⟩ := r_cell (g := g) (so := so) (rn := rn) (ri := ri) (rl := rl) hz
  obtain ⟨j, hj, -⟩ := b_loc Bs pp q _ _ hp hq
  have h1 := hW.2.1 j _ hj
  rw [hk] at h1
  refine ⟨_, h1, by rw [(r_cls _).1]; rfl, ?_⟩
  rw [(r_cls _).2]
  exact r_nm hW k
theorem b_rinY (hx : p.tables.exec = Jvm.exec) (hb : c.code = cc) {own : String} {index : Nat} (hown : s.vm.findClass own = some m.cls) (hW : bW D g A s H locs Bs) (pp : Nat) (hp : Bs[pp]? = some (pW g LR so rn ri rl)) (hz : z ∈ LR) {k : Nat} (hk : so z = k) (hlink : (Cond.classLink own index (rN k)).before args s = true) (hdg : decode cc pc = .ok (.instanceof index, 3))
    (kk : W p l e R s m args below meth c H locs cells slots Q (F0 m (pc + 3) ls (.int 1 :: rest))) : W p l e R s m args below meth c H locs cells slots Q (F0 m pc ls (.ref z :: rest)) :=
  va_instE hx hb hown hlink (r_recv hW pp hp hz hk) hdg kk
theorem b_rinN (hx : p.tables.exec = Jvm.exec) (hb : c.code = cc) {own nm : String} {index : Nat} (hown : s.vm.findClass own = some m.cls) (hW : bW D g A s H locs Bs) (pp : Nat) (hp : Bs[pp]? = some (pW g LR so rn ri rl)) (hz : z ∈ LR) {k : Nat} (hk : so z = k) (hlink : (Cond.classLink own index nm).before args s = true) (hc : va_Nc (rN k) nm s) (hdg : decode cc pc = .ok (.instanceof index, 3))
    (kk : W p l e R s m args below meth c H locs cells slots Q (F0 m (pc + 3) ls (.int 0 :: rest))) : W p l e R s m args below meth c H locs cells slots Q (F0 m pc ls (.ref z :: rest)) :=
  va_instNo hx hb hown hlink hc (r_recv hW pp hp hz hk) hdg kk
theorem b_rcast (hx : p.tables.exec = Jvm.exec) (hb : c.code = cc) {own : String} {index : Nat} (hown : s.vm.findClass own = some m.cls) (hW : bW D g A s H locs Bs) (pp : Nat) (hp : Bs[pp]? = some (pW g LR so rn ri rl)) (hz : z ∈ LR) {k : Nat} (hk : so z = k) (hlink : (Cond.classLink own index (rN k)).before args s = true) (hdg : decode cc pc = .ok (.checkcast index, 3))
    (kk : W p l e R s m args below meth c H locs cells slots Q (F0 m (pc + 3) ls (.ref z :: rest))) : W p l e R s m args below meth c H locs cells slots Q (F0 m pc ls (.ref z :: rest)) :=
  va_castE hx hb hown hlink (r_recv hW pp hp hz hk) hdg kk
/-- of any sort: no goer -/
theorem r_noG (hX : XW g A s) : ∀ k : Nat, va_Nc (rN k) "EverybodyHasTheBook$Goer" s
  | 0 => b_castN hX 68 rfl
  | 1 => b_castN hX 98 rfl
  | 2 => b_castN hX 78 rfl
  | 3 => b_castN hX 88 rfl
  | k + 4 => b_castN hX 108 rfl
theorem b_rBld (hx : p.tables.exec = Jvm.exec) (hb : c.code = cc) (hW : bW D g A s H locs Bs) (pp : Nat) (hp : Bs[pp]? = some (pW g LR so rn ri rl)) (hz : z ∈ LR) (hk : so z = 0) {i : Int32} (hin : inB i (rn z) = true) (hdg : decode cc pc = .ok (.baload, 1))
    (kk : W p l e R s m args below meth c H locs cells slots Q (F0 m (pc + 1) ls (.int (ri z (ix i)) :: rest))) : W p l e R s m args below meth c H locs cells slots Q (F0 m pc ls (.int i :: .ref z :: rest)) := by
  obtain ⟨q, hq⟩ := r_cell (g := g) (so := so) (rn := rn) (ri := ri) (rl := rl) hz
  have hq1 : (pW g LR so rn ri rl)[q]? = some (z, .inl (g 2, rn z, .inl (ri z))) := by rw [hq, hk]; rfl
  obtain ⟨k, hk1, -⟩ := b_loc Bs pp q _ _ hp hq1
  exact va_bald hx hb hW.1 hW.2.1 k 2 hk1 rfl (inB_in hin) hdg kk
theorem b_rBldZ (hx : p.tables.exec = Jvm.exec) (hb : c.code = cc) (hW : bW D g A s H locs Bs) (pp : Nat) (hp : Bs[pp]? = some (pW g LR so rn ri rl)) (hz : z ∈ LR) (hk : so z = 0) {i : Int32} (hout : ¬ inB i (rn z) = true) (hdg : decode cc pc = .ok (.baload, 1))
    (kk : ∀ tx : String, tx = (toString "Index " ++ toString i ++ toString " out of bounds for length " ++ toString (rn z) : String) → vx_Note p l e R s m args below meth c H locs cells slots Q (F0 m pc ls rest) "java/lang/ArrayIndexOutOfBoundsException" tx) : W p l e R s m args below meth c H locs cells slots Q (F0 m pc ls (.int i :: .ref z :: rest)) := by
  obtain ⟨q, hq⟩ := r_cell (g := g) (so := so) (rn := rn) (ri := ri) (rl := rl) hz
  have hq1 : (pW g LR so rn ri rl)[q]? = some (z, .inl (g 2, rn z, .inl (ri z))) := by rw [hq, hk]; rfl
  obtain ⟨k, hk1, -⟩ := b_loc Bs pp q _ _ hp hq1
  exact vx_baldZ hx hb hW.1 hW.2.1 k 2 hk1 rfl (inB_out hout) hdg kk
theorem b_rBst (hx : p.tables.exec = Jvm.exec) (hb : c.code = cc) (hW : bW D g A s H locs Bs) (pp : Nat) (hp : Bs[pp]? = some (pW g LR so rn ri rl)) (hz : z ∈ LR) (hk : so z = 0) {i : Int32} {x : Int32} (hB : Bs.set pp (pW g LR so rn (fun a => if a = z then upd (ri z) (ix i) (vp_nar .byte x) else ri a) rl) = Bs') (hin : inB i (rn z) = true) (hdg : decode cc pc = .ok (.bastore, 1))
    (kk : ∀ (H : Heap) (locs : List Loc), bW D g A s H locs Bs' → W p l e R s m args below meth c H locs cells slots Q (F0 m (pc + 1) ls rest)) : W p l e R s m args below meth c H locs cells slots Q (F0 m pc ls (.int x :: .int i :: .ref z :: rest)) := by
  obtain ⟨q, hq⟩ := r_cell (g := g) (so := so) (rn := rn) (ri := ri) (rl := rl) hz
  have hq1 : (pW g LR so rn ri rl)[q]? = some (z, .inl (g 2, rn z, .inl (ri z))) := by rw [hq, hk]; rfl
  obtain ⟨k, hk1, hset⟩ := b_loc Bs pp q _ _ hp hq1
  have hset1 := r_set (F := upd (ri z) (ix i) (vp_nar .byte x)) (G := rl z) hW hp hz hq (E := .inl (g 2, rn z, .inl (upd (ri z) (ix i) (vp_nar .byte x)))) (by rw [hk]; rfl)
  rw [r_id rl z] at hset1
  obtain ⟨h1, h2, h3, h4, h5⟩ := hW
  refine va_bast hx hb h1 h2 h3 h4 k 2 hk1 rfl (inB_in hin) hdg fun H1 l1 hP hD hS => ?_
  rw [hset, hset1, hB] at hP hD
  exact kk H1 l1 ⟨h1, hP, hD, hS, h5⟩
theorem b_rBstZ (hx : p.tables.exec = Jvm.exec) (hb : c.code = cc) (hW : bW D g A s H locs Bs) (pp : Nat) (hp : Bs[pp]? = some (pW g LR so rn ri rl)) (hz : z ∈ LR) (hk : so z = 0) {i : Int32} {x : Int32} (hout : ¬ inB i (rn z) = true) (hdg : decode cc pc = .ok (.bastore, 1))
    (kk : ∀ tx : String, tx = (toString "Index " ++ toString i ++ toString " out of bounds for length " ++ toString (rn z) : String) → vx_Note p l e R s m args below meth c H locs cells slots Q (F0 m pc ls rest) "java/lang/ArrayIndexOutOfBoundsException" tx) : W p l e R s m args below meth c H locs cells slots Q (F0 m pc ls (.int x :: .int i :: .ref z :: rest)) := by
  obtain ⟨q, hq⟩ := r_cell (g := g) (so := so) (rn := rn) (ri := ri) (rl := rl) hz
  have hq1 : (pW g LR so rn ri rl)[q]? = some (z, .inl (g 2, rn z, .inl (ri z))) := by rw [hq, hk]; rfl
  obtain ⟨k, hk1, -⟩ := b_loc Bs pp q _ _ hp hq1
  exact vx_bastZ hx hb hW.1 hW.2.1 k 2 hk1 rfl (inB_out hout) hdg kk
theorem b_rSld (hx : p.tables.exec = Jvm.exec) (hb : c.code = cc) (hW : bW D g A s H locs Bs) (pp : Nat) (hp : Bs[pp]? = some (pW g LR so rn ri rl)) (hz : z ∈ LR) (hk : so z = 1) {i : Int32} (hin : inB i (rn z) = true) (hdg : decode cc pc = .ok (.saload, 1))
    (kk : W p l e R s m args below meth c H locs cells slots Q (F0 m (pc + 1) ls (.int (ri z (ix i)) :: rest))) : W p l e R s m args below meth c H locs cells slots Q (F0 m pc ls (.int i :: .ref z :: rest)) := by
  obtain ⟨q, hq⟩ := r_cell (g := g) (so := so) (rn := rn) (ri := ri) (rl := rl) hz
  have hq1 : (pW g LR so rn ri rl)[q]? = some (z, .inl (g 3, rn z, .inl (ri z))) := by rw [hq, hk]; rfl
  obtain ⟨k, hk1, -⟩ := b_loc Bs pp q _ _ hp hq1
  exact va_sald hx hb hW.1 hW.2.1 k 3 hk1 rfl (inB_in hin) hdg kk
theorem b_rSldZ (hx : p.tables.exec = Jvm.exec) (hb : c.code = cc) (hW : bW D g A s H locs Bs) (pp : Nat) (hp : Bs[pp]? = some (pW g LR so rn ri rl)) (hz : z ∈ LR) (hk : so z = 1) {i : Int32} (hout : ¬ inB i (rn z) = true) (hdg : decode cc pc = .ok (.saload, 1))
    (kk : ∀ tx : String, tx = (toString "Index " ++ toString i ++ toString " out of bounds for length " ++ toString (rn z) : String) → vx_Note p l e R s m args below meth c H locs cells slots Q (F0 m pc ls rest) "java/lang/ArrayIndexOutOfBoundsException" tx) : W p l e R s m args below meth c H locs cells slots Q (F0 m pc ls (.int i :: .ref z :: rest)) := by
  obtain ⟨q, hq⟩ := r_cell (g := g) (so := so) (rn := rn) (ri := ri) (rl := rl) hz
  have hq1 : (pW g LR so rn ri rl)[q]? = some (z, .inl (g 3, rn z, .inl (ri z))) := by rw [hq, hk]; rfl
  obtain ⟨k, hk1, -⟩ := b_loc Bs pp q _ _ hp hq1
  exact vx_saldZ hx hb hW.1 hW.2.1 k 3 hk1 rfl (inB_out hout) hdg kk
theorem b_rSst (hx : p.tables.exec = Jvm.exec) (hb : c.code = cc) (hW : bW D g A s H locs Bs) (pp : Nat) (hp : Bs[pp]? = some (pW g LR so rn ri rl)) (hz : z ∈ LR) (hk : so z = 1) {i : Int32} {x : Int32} (hB : Bs.set pp (pW g LR so rn (fun a => if a = z then upd (ri z) (ix i) (vp_nar .short x) else ri a) rl) = Bs') (hin : inB i (rn z) = true) (hdg : decode cc pc = .ok (.sastore, 1))
    (kk : ∀ (H : Heap) (locs : List Loc), bW D g A s H locs Bs' → W p l e R s m args below meth c H locs cells slots Q (F0 m (pc + 1) ls rest)) : W p l e R s m args below meth c H locs cells slots Q (F0 m pc ls (.int x :: .int i :: .ref z :: rest)) := by
  obtain ⟨q, hq⟩ := r_cell (g := g) (so := so) (rn := rn) (ri := ri) (rl := rl) hz
  have hq1 : (pW g LR so rn ri rl)[q]? = some (z, .inl (g 3, rn z, .inl (ri z))) := by rw [hq, hk]; rfl
  obtain ⟨k, hk1, hset⟩ := b_loc Bs pp q _ _ hp hq1
  have hset1 := r_set (F := upd (ri z) (ix i) (vp_nar .short x)) (G := rl z) hW hp hz hq (E := .inl (g 3, rn z, .inl (upd (ri z) (ix i) (vp_nar .short x)))) (by rw [hk]; rfl)
  rw [r_id rl z] at hset1
  obtain ⟨h1, h2, h3, h4, h5⟩ := hW
  refine va_sast hx hb h1 h2 h3 h4 k 3 hk1 rfl (inB_in hin) hdg fun H1 l1 hP hD hS => ?_
  rw [hset, hset1, hB] at hP hD
  exact kk H1 l1 ⟨h1, hP, hD, hS, h5⟩
theorem b_rSstZ (hx : p.tables.exec = Jvm.exec) (hb : c.code = cc) (hW : bW D g A s H locs Bs) (pp : Nat) (hp : Bs[pp]? = some (pW g LR so rn ri rl)) (hz : z ∈ LR) (hk : so z = 1) {i : Int32} {x : Int32} (hout : ¬ inB i (rn z) = true) (hdg : decode cc pc = .ok (.sastore, 1))
    (kk : ∀ tx : String, tx = (toString "Index " ++ toString i ++ toString " out of bounds for length " ++ toString (rn z) : String) → vx_Note p l e R s m args below meth c H locs cells slots Q (F0 m pc ls rest) "java/lang/ArrayIndexOutOfBoundsException" tx) : W p l e R s m args below meth c H locs cells slots Q (F0 m pc ls (.int x :: .int i :: .ref z :: rest)) := by
  obtain ⟨q, hq⟩ := r_cell (g := g) (so := so) (rn := rn) (ri := ri) (rl := rl) hz
  have hq1 : (pW g LR so rn ri rl)[q]? = some (z, .inl (g 3, rn z, .inl (ri z))) := by rw [hq, hk]; rfl
  obtain ⟨k, hk1, -⟩ := b_loc Bs pp q _ _ hp hq1
  exact vx_sastZ hx hb hW.1 hW.2.1 k 3 hk1 rfl (inB_out hout) hdg kk
theorem b_rIld (hx : p.tables.exec = Jvm.exec) (hb : c.code = cc) (hW : bW D g A s H locs Bs) (pp : Nat) (hp : Bs[pp]? = some (pW g LR so rn ri rl)) (hz : z ∈ LR) (hk : so z = 2) {i : Int32} (hin : inB i (rn z) = true) (hdg : decode cc pc = .ok (.iaload, 1))
    (kk : W p l e R s m args below meth c H locs cells slots Q (F0 m (pc + 1) ls (.int (ri z (ix i)) :: rest))) : W p l e R s m args below meth c H locs cells slots Q (F0 m pc ls (.int i :: .ref z :: rest)) := by
  obtain ⟨q, hq⟩ := r_cell (g := g) (so := so) (rn := rn) (ri := ri) (rl := rl) hz
  have hq1 : (pW g LR so rn ri rl)[q]? = some (z, .inl (g 0, rn z, .inl (ri z))) := by rw [hq, hk]; rfl
  obtain ⟨k, hk1, -⟩ := b_loc Bs pp q _ _ hp hq1
  exact va_iald hx hb hW.1 hW.2.1 k 0 hk1 rfl (inB_in hin) hdg kk
theorem b_rIldZ (hx : p.tables.exec = Jvm.exec) (hb : c.code = cc) (hW : bW D g A s H locs Bs) (pp : Nat) (hp : Bs[pp]? = some (pW g LR so rn ri rl)) (hz : z ∈ LR) (hk : so z = 2) {i : Int32} (hout : ¬ inB i (rn z) = true) (hdg : decode cc pc = .ok (.iaload, 1))
    (kk : ∀ tx : String, tx = (toString "Index " ++ toString i ++ toString " out of bounds for length " ++ toString (rn z) : String) → vx_Note p l e R s m args below meth c H locs cells slots Q (F0 m pc ls rest) "java/lang/ArrayIndexOutOfBoundsException" tx) : W p l e R s m args below meth c H locs cells slots Q (F0 m pc ls (.int i :: .ref z :: rest)) := by
  obtain ⟨q, hq⟩ := r_cell (g := g) (so := so) (rn := rn) (ri := ri) (rl := rl) hz
  have hq1 : (pW g LR so rn ri rl)[q]? = some (z, .inl (g 0, rn z, .inl (ri z))) := by rw [hq, hk]; rfl
  obtain ⟨k, hk1, -⟩ := b_loc Bs pp q _ _ hp hq1
  exact vx_ialdZ hx hb hW.1 hW.2.1 k 0 hk1 rfl (inB_out hout) hdg kk
theorem b_rIst (hx : p.tables.exec = Jvm.exec) (hb : c.code = cc) (hW : bW D g A s H locs Bs) (pp : Nat) (hp : Bs[pp]? = some (pW g LR so rn ri rl)) (hz : z ∈ LR) (hk : so z = 2) {i : Int32} {x : Int32} (hB : Bs.set pp (pW g LR so rn (fun a => if a = z then upd (ri z) (ix i) x else ri a) rl) = Bs') (hin : inB i (rn z) = true) (hdg : decode cc pc = .ok (.iastore, 1))
    (kk : ∀ (H : Heap) (locs : List Loc), bW D g A s H locs Bs' → W p l e R s m args below meth c H locs cells slots Q (F0 m (pc + 1) ls rest)) : W p l e R s m args below meth c H locs cells slots Q (F0 m pc ls (.int x :: .int i :: .ref z :: rest)) := by
  obtain ⟨q, hq⟩ := r_cell (g := g) (so := so) (rn := rn) (ri := ri) (rl := rl) hz
  have hq1 : (pW g LR so rn ri rl)[q]? = some (z, .inl (g 0, rn z, .inl (ri z))) := by rw [hq, hk]; rfl
  obtain ⟨k, hk1, hset⟩ := b_loc Bs pp q _ _ hp hq1
  have hset1 := r_set (F := upd (ri z) (ix i) x) (G := rl z) hW hp hz hq (E := .inl (g 0, rn z, .inl (upd (ri z) (ix i) x))) (by rw [hk]; rfl)
  rw [r_id rl z] at hset1
  obtain ⟨h1, h2, h3, h4, h5⟩ := hW
  refine va_iast hx hb h1 h2 h3 h4 k 0 hk1 rfl (inB_in hin) hdg fun H1 l1 hP hD hS => ?_
  rw [hset, hset1, hB] at hP hD
  exact kk H1 l1 ⟨h1, hP, hD, hS, h5⟩
theorem b_rIstZ (hx : p.tables.exec = Jvm.exec) (hb : c.code = cc) (hW : bW D g A s H locs Bs) (pp : Nat) (hp : Bs[pp]? = some (pW g LR so rn ri rl)) (hz : z ∈ LR) (hk : so z = 2) {i : Int32} {x : Int32} (hout : ¬ inB i (rn z) = true) (hdg : decode cc pc = .ok (.iastore, 1))
    (kk : ∀ tx : String, tx = (toString "Index " ++ toString i ++ toString " out of bounds for length " ++ toString (rn z) : String) → vx_Note p l e R s m args below meth c H locs cells slots Q (F0 m pc ls rest) "java/lang/ArrayIndexOutOfBoundsException" tx) : W p l e R s m args below meth c H locs cells slots Q (F0 m pc ls (.int x :: .int i :: .ref z :: rest)) := by
  obtain ⟨q, hq⟩ := r_cell (g := g) (so := so) (rn := rn) (ri := ri) (rl := rl) hz
  have hq1 : (pW g LR so rn ri rl)[q]? = some (z, .inl (g 0, rn z, .inl (ri z))) := by rw [hq, hk]; rfl
  obtain ⟨k, hk1, -⟩ := b_loc Bs pp q _ _ hp hq1
  exact vx_iastZ hx hb hW.1 hW.2.1 k 0 hk1 rfl (inB_out hout) hdg kk
theorem b_rLld (hx : p.tables.exec = Jvm.exec) (hb : c.code = cc) (hW : bW D g A s H locs Bs) (pp : Nat) (hp : Bs[pp]? = some (pW g LR so rn ri rl)) (hz : z ∈ LR) (hk : so z = 3) {i : Int32} (hin : inB i (rn z) = true) (hdg : decode cc pc = .ok (.laload, 1))
    (kk : W p l e R s m args below meth c H locs cells slots Q (F0 m (pc + 1) ls (.long (rl z (ix i)) :: rest))) : W p l e R s m args below meth c H locs cells slots Q (F0 m pc ls (.int i :: .ref z :: rest)) := by
  obtain ⟨q, hq⟩ := r_cell (g := g) (so := so) (rn := rn) (ri := ri) (rl := rl) hz
  have hq1 : (pW g LR so rn ri rl)[q]? = some (z, .inl (g 1, rn z, .inr (.inl (rl z)))) := by rw [hq, hk]; rfl
  obtain ⟨k, hk1, -⟩ := b_loc Bs pp q _ _ hp hq1
  exact va_lald hx hb hW.1 hW.2.1 k 1 hk1 rfl (inB_in hin) hdg kk
theorem b_rLldZ (hx : p.tables.exec = Jvm.exec) (hb : c.code = cc) (hW : bW D g A s H locs Bs) (pp : Nat) (hp : Bs[pp]? = some (pW g LR so rn ri rl)) (hz : z ∈ LR) (hk : so z = 3) {i : Int32} (hout : ¬ inB i (rn z) = true) (hdg : decode cc pc = .ok (.laload, 1))
    (kk : ∀ tx : String, tx = (toString "Index " ++ toString i ++ toString " out of bounds for length " ++ toString (rn z) : String) → vx_Note p l e R s m args below meth c H locs cells slots Q (F0 m pc ls rest) "java/lang/ArrayIndexOutOfBoundsException" tx) : W p l e R s m args below meth c H locs cells slots Q (F0 m pc ls (.int i :: .ref z :: rest)) := by
  obtain ⟨q, hq⟩ := r_cell (g := g) (so := so) (rn := rn) (ri := ri) (rl := rl) hz
  have hq1 : (pW g LR so rn ri rl)[q]? = some (z, .inl (g 1, rn z, .inr (.inl (rl z)))) := by rw [hq, hk]; rfl
  obtain ⟨k, hk1, -⟩ := b_loc Bs pp q _ _ hp hq1
  exact vx_laldZ hx hb hW.1 hW.2.1 k 1 hk1 rfl (inB_out hout) hdg kk
theorem b_rLst (hx : p.tables.exec = Jvm.exec) (hb : c.code = cc) (hW : bW D g A s H locs Bs) (pp : Nat) (hp : Bs[pp]? = some (pW g LR so rn ri rl)) (hz : z ∈ LR) (hk : so z = 3) {i : Int32} {x : Int64} (hB : Bs.set pp (pW g LR so rn ri (fun a => if a = z then vp_updL (rl z) (ix i) x else rl a)) = Bs') (hin : inB i (rn z) = true) (hdg : decode cc pc = .ok (.lastore, 1))
    (kk : ∀ (H : Heap) (locs : List Loc), bW D g A s H locs Bs' → W p l e R s m args below meth c H locs cells slots Q (F0 m (pc + 1) ls rest)) : W p l e R s m args below meth c H locs cells slots Q (F0 m pc ls (.long x :: .int i :: .ref z :: rest)) := by
  obtain ⟨q, hq⟩ := r_cell (g := g) (so := so) (rn := rn) (ri := ri) (rl := rl) hz
  have hq1 : (pW g LR so rn ri rl)[q]? = some (z, .inl (g 1, rn z, .inr (.inl (rl z)))) := by rw [hq, hk]; rfl
  obtain ⟨k, hk1, hset⟩ := b_loc Bs pp q _ _ hp hq1
  have hset1 := r_set (F := ri z) (G := vp_updL (rl z) (ix i) x) hW hp hz hq (E := .inl (g 1, rn z, .inr (.inl (vp_updL (rl z) (ix i) x)))) (by rw [hk]; rfl)
  rw [r_id ri z] at hset1
  obtain ⟨h1, h2, h3, h4, h5⟩ := hW
  refine va_last hx hb h1 h2 h3 h4 k 1 hk1 rfl (inB_in hin) hdg fun H1 l1 hP hD hS => ?_
  rw [hset, hset1, hB] at hP hD
  exact kk H1 l1 ⟨h1, hP, hD, hS, h5⟩
theorem b_rLstZ (hx : p.tables.exec = Jvm.exec) (hb : c.code = cc) (hW : bW D g A s H locs Bs) (pp : Nat) (hp : Bs[pp]? = some (pW g LR so rn ri rl)) (hz : z ∈ LR) (hk : so z = 3) {i : Int32} {x : Int64} (hout : ¬ inB i (rn z) = true) (hdg : decode cc pc = .ok (.lastore, 1))
    (kk : ∀ tx : String, tx = (toString "Index " ++ toString i ++ toString " out of bounds for length " ++ toString (rn z) : String) → vx_Note p l e R s m args below meth c H locs cells slots Q (F0 m pc ls rest) "java/lang/ArrayIndexOutOfBoundsException" tx) : W p l e R s m args below meth c H locs cells slots Q (F0 m pc ls (.long x :: .int i :: .ref z :: rest)) := by
  obtain ⟨q, hq⟩ := r_cell (g := g) (so := so) (rn := rn) (ri := ri) (rl := rl) hz
  have hq1 : (pW g LR so rn ri rl)[q]? = some (z, .inl (g 1, rn z, .inr (.inl (rl z)))) := by rw [hq, hk]; rfl
  obtain ⟨k, hk1, -⟩ := b_loc Bs pp q _ _ hp hq1
  exact vx_lastZ hx hb hW.1 hW.2.1 k 1 hk1 rfl (inB_out hout) hdg kk
theorem b_rZld (hx : p.tables.exec = Jvm.exec) (hb : c.code = cc) (hW : bW D g A s H locs Bs) (pp : Nat) (hp : Bs[pp]? = some (pW g LR so rn ri rl)) (hz : z ∈ LR) {j : Nat} (hk : so z = j + 4) {i : Int32} (hin : inB i (rn z) = true) (hdg : decode cc pc = .ok (.baload, 1))
    (kk : W p l e R s m args below meth c H locs cells slots Q (F0 m (pc + 1) ls (.int (ri z (ix i)) :: rest))) : W p l e R s m args below meth c H locs cells slots Q (F0 m pc ls (.int i :: .ref z :: rest)) := by
  obtain ⟨q, hq⟩ := r_cell (g := g) (so := so) (rn := rn) (ri := ri) (rl := rl) hz
  have hq1 : (pW g LR so rn ri rl)[q]? = some (z, .inl (g 4, rn z, .inl (ri z))) := by rw [hq, hk]; rfl
  obtain ⟨k, hk1, -⟩ := b_loc Bs pp q _ _ hp hq1
  exact va_zald hx hb hW.1 hW.2.1 k 4 hk1 rfl (inB_in hin) hdg kk
theorem b_rZldZ (hx : p.tables.exec = Jvm.exec) (hb : c.code = cc) (hW : bW D g A s H locs Bs) (pp : Nat) (hp : Bs[pp]? = some (pW g LR so rn ri rl)) (hz : z ∈ LR) {j : Nat} (hk : so z = j + 4) {i : Int32} (hout : ¬ inB i (rn z) = true) (hdg : decode cc pc = .ok (.baload, 1))
    (kk : ∀ tx : String, tx = (toString "Index " ++ toString i ++ toString " out of bounds for length " ++ toString (rn z) : String) → vx_Note p l e R s m args below meth c H locs cells slots Q (F0 m pc ls rest) "java/lang/ArrayIndexOutOfBoundsException" tx) : W p l e R s m args below meth c H locs cells slots Q (F0 m pc ls (.int i :: .ref z :: rest)) := by
  obtain ⟨q, hq⟩ := r_cell (g := g) (so := so) (rn := rn) (ri := ri) (rl := rl) hz
  have hq1 : (pW g LR so rn ri rl)[q]? = some (z, .inl (g 4, rn z, .inl (ri z))) := by rw [hq, hk]; rfl
  obtain ⟨k, hk1, -⟩ := b_loc Bs pp q _ _ hp hq1
  exact vx_zaldZ hx hb hW.1 hW.2.1 k 4 hk1 rfl (inB_out hout) hdg kk
theorem b_rZst (hx : p.tables.exec = Jvm.exec) (hb : c.code = cc) (hW : bW D g A s H locs Bs) (pp : Nat) (hp : Bs[pp]? = some (pW g LR so rn ri rl)) (hz : z ∈ LR) {j : Nat} (hk : so z = j + 4) {i : Int32} {x : Int32} (hB : Bs.set pp (pW g LR so rn (fun a => if a = z then upd (ri z) (ix i) (vp_nar .boolean x) else ri a) rl) = Bs') (hin : inB i (rn z) = true) (hdg : decode cc pc = .ok (.bastore, 1))
    (kk : ∀ (H : Heap) (locs : List Loc), bW D g A s H locs Bs' → W p l e R s m args below meth c H locs cells slots Q (F0 m (pc + 1) ls rest)) : W p l e R s m args below meth c H locs cells slots Q (F0 m pc ls (.int x :: .int i :: .ref z :: rest)) := by
  obtain ⟨q, hq⟩ := r_cell (g := g) (so := so) (rn := rn) (ri := ri) (rl := rl) hz
  have hq1 : (pW g LR so rn ri rl)[q]? = some (z, .inl (g 4, rn z, .inl (ri z))) := by rw [hq, hk]; rfl
  obtain ⟨k, hk1, hset⟩ := b_loc Bs pp q _ _ hp hq1
  have hset1 := r_set (F := upd (ri z) (ix i) (vp_nar .boolean x)) (G := rl z) hW hp hz hq (E := .inl (g 4, rn z, .inl (upd (ri z) (ix i) (vp_nar .boolean x)))) (by rw [hk]; rfl)
  rw [r_id rl z] at hset1
  obtain ⟨h1, h2, h3, h4, h5⟩ := hW
  refine va_zast hx hb h1 h2 h3 h4 k 4 hk1 rfl (inB_in hin) hdg fun H1 l1 hP hD hS => ?_
  rw [hset, hset1, hB] at hP hD
  exact kk H1 l1 ⟨h1, hP, hD, hS, h5⟩
theorem b_rZstZ (hx : p.tables.exec = Jvm.exec) (hb : c.code = cc) (hW : bW D g A s H locs Bs) (pp : Nat) (hp : Bs[pp]? = some (pW g LR so rn ri rl)) (hz : z ∈ LR) {j : Nat} (hk : so z = j + 4) {i : Int32} {x : Int32} (hout : ¬ inB i (rn z) = true) (hdg : decode cc pc = .ok (.bastore, 1))
    (kk : ∀ tx : String, tx = (toString "Index " ++ toString i ++ toString " out of bounds for length " ++ toString (rn z) : String) → vx_Note p l e R s m args below meth c H locs cells slots Q (F0 m pc ls rest) "java/lang/ArrayIndexOutOfBoundsException" tx) : W p l e R s m args below meth c H locs cells slots Q (F0 m pc ls (.int x :: .int i :: .ref z :: rest)) := by
  obtain ⟨q, hq⟩ := r_cell (g := g) (so := so) (rn := rn) (ri := ri) (rl := rl) hz
  have hq1 : (pW g LR so rn ri rl)[q]? = some (z, .inl (g 4, rn z, .inl (ri z))) := by rw [hq, hk]; rfl
  obtain ⟨k, hk1, -⟩ := b_loc Bs pp q _ _ hp hq1
  exact vx_zastZ hx hb hW.1 hW.2.1 k 4 hk1 rfl (inB_out hout) hdg kk
end RRW
