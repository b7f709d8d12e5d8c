/-! THE GOERS: six classes by a kind; rows over the pool gW; calls that a goer's class answers -/
set_option maxRecDepth 100000
def gC : Nat → String
  | 0 => RX5
  | 1 => RX6
  | 2 => RX7
  | 3 => RX8
  | 4 => RX9
  | _ => RX10
def gT : Nat → u_T
  | 0 => TX5
  | 1 => TX6
  | 2 => TX7
  | 3 => TX8
  | 4 => TX9
  | _ => TX10
theorem gCL : ∀ k, k < 6 → CL[5 + k]? = some (gC k, gT k, 2)
  | 0, _ => rfl
  | 1, _ => rfl
  | 2, _ => rfl
  | 3, _ => rfl
  | 4, _ => rfl
  | 5, _ => rfl
  | n + 6, h => absurd h (by omega)
theorem gin : ∀ k, k < 6 → ∀ w ∈ u_ws (gC k) (gT k) 2, w ∈ lw_all
  | 0, _ => in_X5
  | 1, _ => in_X6
  | 2, _ => in_X7
  | 3, _ => in_X8
  | 4, _ => in_X9
  | 5, _ => in_X10
  | n + 6, h => absurd h (by omega)
theorem gT0 : ∀ k, gT k 0 = ("EverybodyHasTheBook$Goer", "number", "I", true)
  | 0 => rfl
  | 1 => rfl
  | 2 => rfl
  | 3 => rfl
  | 4 => rfl
  | n + 5 => rfl
theorem gT1 : ∀ k, gT k 1 = ("EverybodyHasTheBook$Goer", "a", "I", true)
  | 0 => rfl
  | 1 => rfl
  | 2 => rfl
  | 3 => rfl
  | 4 => rfl
  | n + 5 => rfl
def gIn (L : List Nat) (kd : Nat → Nat) (a : Nat) : Bool := decide (a ∈ L) && decide (kd a < 6)
theorem gIn_1 {L : List Nat} {kd : Nat → Nat} {a : Nat} (h : gIn L kd a = true) : a ∈ L ∧ kd a < 6 := by simpa [gIn] using h
section GRW
variable {p : Program} {l : Launch} {e : Env} {R : Room} {s : State} {m : MethodId} {args : Array Value} {below : List Frame} {meth : Method} {c : Code} {H : Heap} {locs : List Loc} {cells slots : Nat} {Q : State → Prop}
variable {cc : ByteArray} {pc : Nat} {ls : Array Slot} {rest : List Value} {D : va_G} {g : Nat → ClassId} {A : Nat → Prop} {a : Nat} {Bs Bs' : List va_W} {w w' : va_W}
variable {L : List Nat} {kd : Nat → Nat} {nu aa : Nat → Int32}
theorem g_cell (h : a ∈ L) : ∃ k : Nat, (gW L kd nu aa)[k]? = some (a, .inr (5 + kd a, [.int (nu a), .int (aa a)])) := by
  obtain ⟨k, hk⟩ := List.getElem?_of_mem h
  exact ⟨k, by simp [gW, va_pl, hk]⟩
theorem g_recv (hW : bW D g A s H locs Bs) (pp : Nat) (hp : Bs[pp]? = some (gW L kd nu aa)) (hz : gIn L kd a = true) : ∃ cell : Cell, H[a]? = some cell ∧ cell.vm.isStatics = false ∧ s.vm.findClass (gC (kd a)) = some cell.cls := by
  obtain ⟨h1, h2⟩ := gIn_1 hz
  obtain ⟨k, hk⟩ := g_cell (kd := kd) (nu := nu) (aa := aa) h1
  exact b_recv hW hp hk (gCL _ h2)
theorem g_at (hW : bW D g A s H locs Bs) {k : Nat} (h : k < 6) : ClassAt s (gC k) (D.1 (5 + k)) := (hW.1.1 (5 + k) _ (gCL k h)).2
theorem b_getA (hx : p.tables.exec = Jvm.exec) (hb : c.code = cc) {own ref : String} {index : Nat} (hts : ∀ w ∈ lw_all, w.before args s = true) (hown : s.vm.findClass own = some m.cls) (hW : bW D g A s H locs Bs) (pp : Nat) (hp : Bs[pp]? = some (gW L kd nu aa)) (hz : gIn L kd a = true) (hlink : (Cond.fieldLink own index ref "a" "I").before args s = true) (hsame : ∀ x, s.fieldFound? "EverybodyHasTheBook$Goer" "a" "I" = some x → s.fieldFound? ref "a" "I" = some x) (hdg : decode cc pc = .ok (.getfield index, 3))
    (kk : W p l e R s m args below meth c H locs cells slots Q (F0 m (pc + 3) ls (.int (aa a) :: rest))) : W p l e R s m args below meth c H locs cells slots Q (F0 m pc ls (.ref a :: rest)) := by
  obtain ⟨h1, h2⟩ := gIn_1 hz
  obtain ⟨k, hk⟩ := g_cell (kd := kd) (nu := nu) (aa := aa) h1
  obtain ⟨j, hj, -⟩ := b_loc Bs pp k _ _ hp hk
  have e1 := gT1 (kd a)
  exact va_get hx hb hts (gin _ h2) hown hW.1 hW.2.1 j hj (gCL _ h2) 1 (by decide) (by rw [e1]; exact hlink) (by rw [e1]; exact hsame) rfl hdg kk
theorem b_getNu (hx : p.tables.exec = Jvm.exec) (hb : c.code = cc) {own ref : String} {index : Nat} (hts : ∀ w ∈ lw_all, w.before args s = true) (hown : s.vm.findClass own = some m.cls) (hW : bW D g A s H locs Bs) (pp : Nat) (hp : Bs[pp]? = some (gW L kd nu aa)) (hz : gIn L kd a = true) (hlink : (Cond.fieldLink own index ref "number" "I").before args s = true) (hsame : ∀ x, s.fieldFound? "EverybodyHasTheBook$Goer" "number" "I" = some x → s.fieldFound? ref "number" "I" = some x) (hdg : decode cc pc = .ok (.getfield index, 3))
    (kk : W p l e R s m args below meth c H locs cells slots Q (F0 m (pc + 3) ls (.int (nu a) :: rest))) : W p l e R s m args below meth c H locs cells slots Q (F0 m pc ls (.ref a :: rest)) := by
  obtain ⟨h1, h2⟩ := gIn_1 hz
  obtain ⟨k, hk⟩ := g_cell (kd := kd) (nu := nu) (aa := aa) h1
  obtain ⟨j, hj, -⟩ := b_loc Bs pp k _ _ hp hk
  have e1 := gT0 (kd a)
  exact va_get hx hb hts (gin _ h2) hown hW.1 hW.2.1 j hj (gCL _ h2) 0 (by decide) (by rw [e1]; exact hlink) (by rw [e1]; exact hsame) rfl hdg kk
/-- a call of a method that the receiver's class inherits from an interface -/
theorem b_runD {x y : MethodName} {bytes : ByteArray} {maxL nL mc ms n index : Nat} {ret : Option FieldType} {ws : List Cond} {rm : Room} {Pc : Array Value → State → Prop} {Qc : Array Value → State → Outcome → State → Prop} {free : Addr → Prop} {Ts : List Cond} {own C owner : String} {b : Addr} {As : List Value} {g1 : JFrame}
    (S : CallFix p m c cc nL s args Ts own) (hM : Met l y ws rm Pc Qc mc ms free)
    (hcb : rm.cells = mc ∧ rm.slots = ms ∧ rm.frames + 1 ≤ R.frames ∧ 8 + (maxL + 11) + rm.locals ≤ R.locals ∧ (∀ w ∈ ws, ∀ (a' : Array Value) (U : State), s.WarmedH U.vm → w.before a' U = true) ∧ Cond.code y bytes maxL ret ∈ ws) (hini : (Cond.initialized y.cls).before args s = true)
    (hlink : (Cond.methodLink own index x).before args s = true) (hsame : (Cond.sameMethod x.cls owner x.name x.desc).before args s = true) (hdecl : (Cond.declares ⟨owner, x.name, x.desc⟩).before args s = true) (howner : owner ≠ "java/lang/invoke/MethodHandle" ∧ owner ≠ "java/lang/invoke/VarHandle")
    (hsel : (Cond.landsInDefault C x y).before args s = true) (hinst : (Cond.instanceMethod y).before args s = true) (hlen : (parseMethodDescriptor x.desc).map (fun d => d.parameters.length) = some n) (hp : PreV s H C b Pc As)
    (hg : g1.method = m) (hn : As.length = n) (hsize : g1.locals.size = nL) (hstack : g1.stack = As.reverse ++ .ref b :: rest) (hV : 2 * g1.monitorRoom + (rest.map fun v => v.category).sum ≤ 8) (hdg : decode cc g1.pc = .ok (.invokevirtual index, 3)) (hf : cells + mc ≤ R.cells ∧ slots + ms ≤ R.slots) :
    va_Run p l e R s m args below meth c H locs cells slots mc ms g1 rest (Qc (Value.ref b :: As).toArray) free := by
  obtain ⟨hrc, hrs, hfr, hlo, hws, hcw⟩ := hcb
  have hK : Back l R p e below s args y 3 8 (PreOf R mc ms Pc) (PostOf Qc mc ms free) := back_of (bytes := bytes) (maxL := maxL) (ret := ret) hM hp.1 hrc hrs hfr hlo hws hcw (fun a' U hW => word_at hW (Or.inl (by first | rfl | simp [Cond.onTables, Cond.keeps, Cond.steady])) hini)
  obtain ⟨hx, hb, hml, ho, -⟩ := S
  obtain ⟨-, ⟨cellB, hcB, hoB, hclB⟩, hPc⟩ := hp
  intro T hT X
  obtain ⟨v, vm₁, ⟨U', l2, c2, s2⟩, hW₁, X', ⟨g', mk, t, Lo, e1, e2, hq, h1, hL, h2, h3⟩, st⟩ := virtualBackUpD X hx (C := C) ho hlink hsame hdecl howner hsel hinst hK hclB ⟨cellB, by rw [hT]; exact hcB, rfl, hoB⟩ hg (hsize.trans hml.symm) (Steps.refl _) (argsL := As) (rest := rest)
    (fun sig h => by rw [h] at hlen; rw [hn]; exact (Option.some.inj hlen).symm) hstack hV (by rw [hb]; exact hdg) (fun vm₁ hW₁ => ⟨hf.1, hf.2, hPc (T.setVm vm₁) hT hW₁⟩)
  dsimp only [Pt.U, Pt.locs, Pt.cells, Pt.slots] at X' e1 e2 h1 h2 h3 st
  subst h1; subst h2; subst h3
  exact ⟨v, (T.setVm vm₁).calling g' mk (Value.ref b :: As).toArray, t, U', Lo, hT, X', hL, e1, e2, hq, fun tg h => st.trans h⟩
end GRW
