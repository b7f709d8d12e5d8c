/-! System.arraycopy over the rows: what it copies -/
set_option maxRecDepth 100000
def cFit (k : Nat) (f : Nat → Int32) (n : Nat) : Bool := k == 3 || (List.range n).all fun i => fits (rTy k) (.int (f i))
def cpI (so : Nat → Nat) (ri : Nat → Nat → Int32) (a b : Nat) (sp dp n : Int32) : Nat → Nat → Int32 := fun x => if x = b then (if so a = 3 then ri b else va_cpy (ri a) (ri b) (ix sp) (ix dp) (ix n)) else ri x
def cpL (so : Nat → Nat) (rl : Nat → Nat → Int64) (a b : Nat) (sp dp n : Int32) : Nat → Nat → Int64 := fun x => if x = b then (if so a = 3 then va_cpy (rl a) (rl b) (ix sp) (ix dp) (ix n) else rl b) else rl x
theorem rTy_in : ∀ i j : Nat, rTy i = rTy j → i = j ∨ (4 ≤ i ∧ 4 ≤ j) := by
  intro i j h
  rcases r5 i with h1 | h1 | h1 | h1 | ⟨i', h1⟩ <;> subst h1 <;> rcases r5 j with h2 | h2 | h2 | h2 | ⟨j', h2⟩ <;> subst h2 <;> first | exact Or.inl rfl | exact Or.inr ⟨by omega, by omega⟩ | (exact absurd h (by intro h; cases h))
section CPR
variable {p : Program} {l : Launch} {e : Env} {R : Room} {s : State} {m : MethodId} {args : Array Value} {below : List Frame} {meth : Method} {c : Code} {H : Heap} {locs : List Loc} {cells slots : Nat} {Q : State → Prop}
variable {cc : ByteArray} {pc : Nat} {ls : Array Slot} {rest : List Value} {D : va_G} {g : Nat → ClassId} {A : Nat → Prop} {a b : Nat} {Bs Bs' : List va_W}
variable {LR : List Nat} {so rn : Nat → Nat} {ri ri' : Nat → Nat → Int32} {rl rl' : Nat → Nat → Int64}
theorem b_cpyI (hx : p.tables.exec = Jvm.exec) (hb : c.code = cc) (hml : c.maxLocals = ls.size) {own : String} {index : Nat} (hown : s.vm.findClass own = some m.cls) (hlink : (Cond.methodLink own index arraycopyName).before args s = true) (hnat : (Cond.native arraycopyName).before args s = true) (hstat : (Cond.static arraycopyName).before args s = true) (hini : (Cond.initialized "java/lang/System").before args s = true)
    (hW : bW D g A s H locs Bs) (pp : Nat) (hp : Bs[pp]? = some (pW g LR so rn ri rl)) (ha : a ∈ LR) (hb2 : b ∈ LR) (t : Nat) {ty : FieldType} (hta : rT (so a) = t) (htb : rT (so b) = t) (hty : (TY g)[t]? = some (g t, ty)) (hpr : refKind ty = false) (hFa : ∀ F G, rF (so a) F G = .inl F) (hFb : ∀ F G, rF (so b) F G = .inl F)
    {sp dp n : Int32} (hok : o_cpy sp dp n (rn a) (rn b) = true) (hfit : ∀ i, i < rn a → fits ty (.int (ri a i)) = true) (hB : Bs.set pp (pW g LR so rn (fun x => if x = b then va_cpy (ri a) (ri b) (ix sp) (ix dp) (ix n) else ri x) rl) = Bs')
    (hframes : 1 ≤ R.frames) (hlocals : (rest.map fun v => v.category).sum + (nativeFrameWords "java/lang/System" "arraycopy" 5 + 11) ≤ R.locals) (hdg : decode cc pc = .ok (.invokestatic index, 3))
    (kk : ∀ (H : Heap) (locs : List Loc), bW D g A s H locs Bs' → W p l e R s m args below meth c H locs cells slots Q (F0 m (pc + 3) ls rest)) : W p l e R s m args below meth c H locs cells slots Q (F0 m pc ls (.int n :: .int dp :: .ref b :: .int sp :: .ref a :: rest)) := by
  obtain ⟨o1, o2, o3, o4, o5⟩ := o_cpy1 hok
  obtain ⟨qa, hqa⟩ := r_cell (g := g) (so := so) (rn := rn) (ri := ri) (rl := rl) ha
  obtain ⟨qb, hqb⟩ := r_cell (g := g) (so := so) (rn := rn) (ri := ri) (rl := rl) hb2
  have hqa1 : (pW g LR so rn ri rl)[qa]? = some (a, .inl (g t, rn a, .inl (ri a))) := by rw [hqa]; unfold rE; rw [hta, hFa]
  have hqb1 : (pW g LR so rn ri rl)[qb]? = some (b, .inl (g t, rn b, .inl (ri b))) := by rw [hqb]; unfold rE; rw [htb, hFb]
  obtain ⟨ja, hja, -⟩ := b_loc Bs pp qa _ _ hp hqa1
  obtain ⟨jb, hjb, hset⟩ := b_loc Bs pp qb _ _ hp hqb1
  have hset1 := r_set (F := va_cpy (ri a) (ri b) (ix sp) (ix dp) (ix n)) (G := rl b) hW hp hb2 hqb (E := .inl (g t, rn b, .inl (va_cpy (ri a) (ri b) (ix sp) (ix dp) (ix n)))) (by unfold rE; rw [htb, hFb])
  rw [r_id rl b] at hset1
  obtain ⟨g1, g2, g3, g4, g5⟩ := hW
  refine va_copyi hx hb hml hown hlink hnat hstat hini g1 g2 g3 g4 ja jb t t (ty := ty) hja hjb hty hty hpr o1 o2 o3 o4 o5 (fun i hi => hfit _ (Nat.lt_of_lt_of_le (Nat.add_lt_add_left hi _) o4)) hframes hlocals hdg fun H1 l1 hP hD hS => ?_
  rw [hset] at hP hD
  have e1 : (pW g LR so rn ri rl).set qb (b, .inl (g t, rn b, .inl (va_cpy (ri a) (ri b) (sp.toNatClampNeg) (dp.toNatClampNeg) (n.toNatClampNeg)))) = _ := hset1
  rw [e1, hB] at hP hD
  exact kk H1 l1 ⟨g1, hP, hD, hS, g5⟩
theorem b_cpyLo (hx : p.tables.exec = Jvm.exec) (hb : c.code = cc) (hml : c.maxLocals = ls.size) {own : String} {index : Nat} (hown : s.vm.findClass own = some m.cls) (hlink : (Cond.methodLink own index arraycopyName).before args s = true) (hnat : (Cond.native arraycopyName).before args s = true) (hstat : (Cond.static arraycopyName).before args s = true) (hini : (Cond.initialized "java/lang/System").before args s = true)
    (hW : bW D g A s H locs Bs) (pp : Nat) (hp : Bs[pp]? = some (pW g LR so rn ri rl)) (ha : a ∈ LR) (hb2 : b ∈ LR) (hka : so a = 3) (hkb : so b = 3)
    {sp dp n : Int32} (hok : o_cpy sp dp n (rn a) (rn b) = true) (hB : Bs.set pp (pW g LR so rn ri (fun x => if x = b then va_cpy (rl a) (rl b) (ix sp) (ix dp) (ix n) else rl x)) = Bs')
    (hframes : 1 ≤ R.frames) (hlocals : (rest.map fun v => v.category).sum + (nativeFrameWords "java/lang/System" "arraycopy" 5 + 11) ≤ R.locals) (hdg : decode cc pc = .ok (.invokestatic index, 3))
    (kk : ∀ (H : Heap) (locs : List Loc), bW D g A s H locs Bs' → W p l e R s m args below meth c H locs cells slots Q (F0 m (pc + 3) ls rest)) : W p l e R s m args below meth c H locs cells slots Q (F0 m pc ls (.int n :: .int dp :: .ref b :: .int sp :: .ref a :: rest)) := by
  obtain ⟨o1, o2, o3, o4, o5⟩ := o_cpy1 hok
  obtain ⟨qa, hqa⟩ := r_cell (g := g) (so := so) (rn := rn) (ri := ri) (rl := rl) ha
  obtain ⟨qb, hqb⟩ := r_cell (g := g) (so := so) (rn := rn) (ri := ri) (rl := rl) hb2
  have hqa1 : (pW g LR so rn ri rl)[qa]? = some (a, .inl (g 1, rn a, .inr (.inl (rl a)))) := by rw [hqa, hka]; rfl
  have hqb1 : (pW g LR so rn ri rl)[qb]? = some (b, .inl (g 1, rn b, .inr (.inl (rl b)))) := by rw [hqb, hkb]; rfl
  obtain ⟨ja, hja, -⟩ := b_loc Bs pp qa _ _ hp hqa1
  obtain ⟨jb, hjb, hset⟩ := b_loc Bs pp qb _ _ hp hqb1
  have hset1 := r_set (F := ri b) (G := va_cpy (rl a) (rl b) (ix sp) (ix dp) (ix n)) hW hp hb2 hqb (E := .inl (g 1, rn b, .inr (.inl (va_cpy (rl a) (rl b) (ix sp) (ix dp) (ix n))))) (by rw [hkb]; rfl)
  rw [r_id ri b] at hset1
  obtain ⟨g1, g2, g3, g4, g5⟩ := hW
  refine va_copyl hx hb hml hown hlink hnat hstat hini g1 g2 g3 g4 ja jb 1 1 (ty := .long) hja hjb rfl rfl rfl o1 o2 o3 o4 o5 (fun i hi => rfl) hframes hlocals hdg fun H1 l1 hP hD hS => ?_
  rw [hset] at hP hD
  have e1 : (pW g LR so rn ri rl).set qb (b, .inl (g 1, rn b, .inr (.inl (va_cpy (rl a) (rl b) (sp.toNatClampNeg) (dp.toNatClampNeg) (n.toNatClampNeg))))) = _ := hset1
  rw [e1, hB] at hP hD
  exact kk H1 l1 ⟨g1, hP, hD, hS, g5⟩
/-- of any sort -/
theorem b_cpyR (hx : p.tables.exec = Jvm.exec) (hb : c.code = cc) (hml : c.maxLocals = ls.size) {own : String} {index : Nat} (hown : s.vm.findClass own = some m.cls) (hlink : (Cond.methodLink own index arraycopyName).before args s = true) (hnat : (Cond.native arraycopyName).before args s = true) (hstat : (Cond.static arraycopyName).before args s = true) (hini : (Cond.initialized "java/lang/System").before args s = true)
    (hW : bW D g A s H locs Bs) (pp : Nat) (hp : Bs[pp]? = some (pW g LR so rn ri rl)) (ha : a ∈ LR) (hb2 : b ∈ LR) (heq : rTy (so a) = rTy (so b)) {sp dp n : Int32} (hok : o_cpy sp dp n (rn a) (rn b) = true) (hfit : cFit (so a) (ri a) (rn a) = true)
    (e1 : ri' = cpI so ri a b sp dp n) (e2 : rl' = cpL so rl a b sp dp n) (hB : Bs.set pp (pW g LR so rn ri' rl') = Bs')
    (hframes : 1 ≤ R.frames) (hlocals : (rest.map fun v => v.category).sum + (nativeFrameWords "java/lang/System" "arraycopy" 5 + 11) ≤ R.locals) (hdg : decode cc pc = .ok (.invokestatic index, 3))
    (kk : ∀ (H : Heap) (locs : List Loc), bW D g A s H locs Bs' → W p l e R s m args below meth c H locs cells slots Q (F0 m (pc + 3) ls rest)) : W p l e R s m args below meth c H locs cells slots Q (F0 m pc ls (.int n :: .int dp :: .ref b :: .int sp :: .ref a :: rest)) := by
  have hF : ∀ k : Nat, k ≠ 3 → ∀ F G, rF k F G = .inl F := fun k hk F G => by
    rcases r5 k with h | h | h | h | ⟨j, h⟩
    · subst h; rfl
    · subst h; rfl
    · subst h; rfl
    · exact absurd h hk
    · subst h; rfl
  by_cases h3 : so a = 3
  · have h3b : so b = 3 := by rcases rTy_in _ _ heq with h | h <;> omega
    have E1 : ri' = ri := by
      rw [e1]; funext x; unfold cpI; rw [if_pos h3]
      by_cases hxb : x = b
      · rw [if_pos hxb, hxb]
      · rw [if_neg hxb]
    have E2 : rl' = (fun x => if x = b then va_cpy (rl a) (rl b) (ix sp) (ix dp) (ix n) else rl x) := by
      rw [e2]; funext x; unfold cpL; rw [if_pos h3]
    rw [E1, E2] at hB
    exact b_cpyLo hx hb hml hown hlink hnat hstat hini hW pp hp ha hb2 h3 h3b hok hB hframes hlocals hdg kk
  · have h3b : so b ≠ 3 := by
      intro h
      rcases rTy_in _ _ heq with h' | h' <;> omega
    have E1 : ri' = (fun x => if x = b then va_cpy (ri a) (ri b) (ix sp) (ix dp) (ix n) else ri x) := by
      rw [e1]; funext x; unfold cpI; rw [if_neg h3]
    have E2 : rl' = rl := by
      rw [e2]; funext x; unfold cpL; rw [if_neg h3]
      by_cases hxb : x = b
      · rw [if_pos hxb, hxb]
      · rw [if_neg hxb]
    rw [E1, E2] at hB
    have hft : ∀ i, i < rn a → fits (rTy (so a)) (.int (ri a i)) = true := by
      intro i hi
      simp only [cFit, Bool.or_eq_true, beq_iff_eq, List.all_eq_true] at hfit
      rcases hfit with h | h
      · exact absurd h h3
      · exact h i (List.mem_range.mpr hi)
    have hT : ∀ k : Nat, (TY g)[rT k]? = some (g (rT k), rTy k) := fun k => by
      rcases r5 k with h | h | h | h | ⟨j, h⟩ <;> subst h <;> rfl
    have hTe : rT (so b) = rT (so a) := by
      rcases rTy_in _ _ heq with h | ⟨h, h'⟩
      · rw [h]
      · obtain ⟨i, hi⟩ : ∃ i, so a = i + 4 := ⟨so a - 4, by omega⟩
        obtain ⟨j, hj⟩ : ∃ j, so b = j + 4 := ⟨so b - 4, by omega⟩
        rw [hi, hj]; rfl
    exact b_cpyI hx hb hml hown hlink hnat hstat hini hW pp hp ha hb2 (rT (so a)) rfl hTe (hT _) (by rcases r5 (so a) with h | h | h | h | ⟨j, h⟩ <;> rw [h] <;> rfl) (hF _ h3) (hF _ h3b) hok hft hB hframes hlocals hdg kk
end CPR
