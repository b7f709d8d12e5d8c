/-! A CAST THAT FAILS: the text of the machine's ClassCastException, and the row -/
set_option maxRecDepth 100000
def xMs : List String := ["[B", "[S", "[I", "[J", "[Z", "EverybodyHasTheBook$Goer", "EverybodyHasTheBook$Booked", "EverybodyHasTheBook$Against", "EverybodyHasTheBook$Own", "EverybodyHasTheBook$Lettered", "EverybodyHasTheBook$Late"]
theorem x_dot : ∀ n ∈ xMs, (dotted n).toList.length ≤ 28 := by decide +kernel
theorem x_pkg : ∀ n ∈ xMs, packageOf n = "" := by decide +kernel
theorem x_fc {vm : Vm} {name : String} {c : ClassId} (h : vm.findClass name = some c) : ∃ k, vm.classes[c]? = some k ∧ k.name = name ∧ k.hidden = none ∧ k.loader = none := by
  obtain ⟨hlt, hp, _⟩ := Array.findIdx?_eq_some_iff_getElem.mp h
  refine ⟨vm.classes[c], by simp [hlt], ?_⟩
  simp only [Bool.and_eq_true, beq_iff_eq, Option.isNone_iff_eq_none] at hp
  exact ⟨hp.1.1.1, hp.1.1.2, hp.2⟩
theorem x_mod {vm : Vm} (hm : (vm.modules.all fun m => m.loader.isSome || m.name == "java.base" || !(castPackages_1.any fun p => m.packages.contains p)) = true) {k : Class} (hl : k.loader = none) (hp : packageOf k.name = "") {m : ModuleInfo} (h : vm.moduleOf k = some m) : m.name = "java.base" := by
  unfold Vm.moduleOf at h
  split at h
  · have h1 := List.find?_some h
    simpa using h1
  · have h1 := List.find?_some h
    have h2 := List.mem_of_find?_eq_some h
    have h3 := List.all_eq_true.mp hm m h2
    simp only [Bool.and_eq_true, beq_iff_eq] at h1
    obtain ⟨h4, h5⟩ := h1
    rw [hl] at h4
    rw [hp] at h5
    have h6 : (castPackages_1.any fun p => m.packages.contains p) = true := List.any_eq_true.mpr ⟨"", by decide, h5⟩
    simp only [h4, h6, Option.isSome_none, Bool.false_or, Bool.not_true, Bool.or_false, beq_iff_eq] at h3
    exact h3
theorem x_home {vm : Vm} (hm : (vm.modules.all fun m => m.loader.isSome || m.name == "java.base" || !(castPackages_1.any fun p => m.packages.contains p)) = true) {k : Class} (hl : k.loader = none) (hp : packageOf k.name = "") : (vm.home k).toList.length ≤ 38 := by
  unfold Vm.home
  rw [hl]
  have e1 : (vm.loaderName none) = "'bootstrap'" := rfl
  rw [e1]
  cases h : vm.moduleOf k with
  | none =>
    simp only [String.toList_append, List.length_append]
    decide
  | some m =>
    have h1 := x_mod hm hl hp h
    simp only [h1, String.toList_append, List.length_append]
    decide
theorem x_shown {k : Class} (hh : k.hidden = none) : k.shown = dotted k.name := by
  unfold Class.shown
  rw [hh]
theorem x_msg {vm : Vm} (hm : (vm.modules.all fun m => m.loader.isSome || m.name == "java.base" || !(castPackages_1.any fun p => m.packages.contains p)) = true) {a b : Class} (ha : a.name ∈ xMs) (hb : b.name ∈ xMs) (ha1 : a.hidden = none) (hb1 : b.hidden = none) (ha2 : a.loader = none) (hb2 : b.loader = none) : (Op.checkcast.message vm a b == notModelled) = false ∧ (stringBytes (stringToUtf16 (Op.checkcast.message vm a b))).size ≤ 1000 := by
  have la : a.shown.toList.length ≤ 28 := by rw [x_shown ha1]; exact x_dot _ ha
  have lb : b.shown.toList.length ≤ 28 := by rw [x_shown hb1]; exact x_dot _ hb
  have da := x_home hm ha2 (x_pkg _ ha)
  have db := x_home hm hb2 (x_pkg _ hb)
  have hh : (vm.homes a b).toList.length ≤ 148 := by
    unfold Vm.homes
    split
    · show (toString a.shown ++ toString " and " ++ toString b.shown ++ toString " are in " ++ toString (vm.home a)).toList.length ≤ 148
      simp only [String.toList_append, List.length_append]
      have a1 : (toString " and ").toList.length = 5 := by decide
      have a2 : (toString " are in ").toList.length = 8 := by decide
      have a3 : (toString a.shown).toList.length ≤ 28 := la
      have a4 : (toString b.shown).toList.length ≤ 28 := lb
      have a5 : (toString (vm.home a)).toList.length ≤ 38 := da
      omega
    · show (toString a.shown ++ toString " is in " ++ toString (vm.home a) ++ toString "; " ++ toString b.shown ++ toString " is in " ++ toString (vm.home b)).toList.length ≤ 148
      simp only [String.toList_append, List.length_append]
      have a1 : (toString " is in ").toList.length = 7 := by decide
      have a2 : (toString "; ").toList.length = 2 := by decide
      have a3 : (toString a.shown).toList.length ≤ 28 := la
      have a4 : (toString b.shown).toList.length ≤ 28 := lb
      have a5 : (toString (vm.home a)).toList.length ≤ 38 := da
      have a6 : (toString (vm.home b)).toList.length ≤ 38 := db
      omega
  have e : Op.checkcast.message vm a b = toString "class " ++ toString a.shown ++ toString " cannot be cast to class " ++ toString b.shown ++ toString " (" ++ toString (vm.homes a b) ++ toString ")" := rfl
  constructor
  · rw [beq_eq_false_iff_ne]
    intro h
    have h2 := congrArg String.toList h
    have h3 : (Op.checkcast.message vm a b).toList = 'c' :: ("lass ".toList ++ a.shown.toList ++ " cannot be cast to class ".toList ++ b.shown.toList ++ " (".toList ++ (vm.homes a b).toList ++ ")".toList) := by
      rw [e]
      simp only [String.toList_append]
      rfl
    rw [h3] at h2
    have h4 : notModelled.toList = '\u0000' :: " a message that is not modelled".toList := by decide
    rw [h4] at h2
    simp at h2
  · have hl : (Op.checkcast.message vm a b).toList.length ≤ 250 := by
      rw [e]
      simp only [String.toList_append, List.length_append]
      have a1 : (toString "class ").toList.length = 6 := by decide
      have a2 : (toString " cannot be cast to class ").toList.length = 25 := by decide
      have a3 : (toString " (").toList.length = 2 := by decide
      have a4 : (toString ")").toList.length = 1 := by decide
      have a5 : (toString a.shown).toList.length ≤ 28 := la
      have a6 : (toString b.shown).toList.length ≤ 28 := lb
      have a7 : (toString (vm.homes a b)).toList.length ≤ 148 := hh
      omega
    have b1 := stringBytes_size_le (stringToUtf16 (Op.checkcast.message vm a b))
    have b2 := utf16_size_le (Op.checkcast.message vm a b)
    omega
section CSTN
variable {p : Program} {l : Launch} {e : Env} {R : Room} {s : State} {m : MethodId} {args : Array Value} {below : List Frame} {meth : Method} {c : Code} {H : Heap} {locs : List Loc} {cells slots : Nat} {Q : State → Prop}
variable {cc : ByteArray} {pc : Nat} {ls : Array Slot} {rest : List Value} {D : va_G} {g : Nat → ClassId} {A : Nat → Prop} {a : Nat} {Bs : List va_W}
theorem b_castZ0 (hx : p.tables.exec = Jvm.exec) (hb : c.code = cc) {own nm C : String} {index : Nat} (hown : s.vm.findClass own = some m.cls) (hlink : (Cond.classLink own index nm).before args s = true) (hmod : modulesRight_1 s = true) (hc : va_Nc C nm s) (hC : C ∈ xMs) (hnm : nm ∈ xMs) (hr : ∃ cell : Cell, H[a]? = some cell ∧ cell.vm.isStatics = false ∧ s.vm.findClass C = some cell.cls) (hdg : decode cc pc = .ok (.checkcast index, 3))
    (k : ∀ tx : String, (tx == notModelled) = false → (stringBytes (stringToUtf16 tx)).size ≤ 1000 → vx_Note p l e R s m args below meth c H locs cells slots Q (F0 m pc ls (.ref a :: rest)) "java/lang/ClassCastException" tx) : W p l e R s m args below meth c H locs cells slots Q (F0 m pc ls (.ref a :: rest)) := by
  obtain ⟨cell, h1, h2, h3⟩ := hr
  obtain ⟨c0, cT, f1, f2, f3⟩ := hc
  cases h3.symm.trans f1
  intro T hT X
  have hpl : e.platform.magicAccessors = ({} : Platform).magicAccessors := by rw [X.admits.platform]
  obtain ⟨c', hc', hcl⟩ := Cond.classLink_spec hown hlink e.platform hpl
  cases f2.symm.trans hc'
  obtain ⟨dk, _, _, kt, hd, _, _, _, _, hkt, _, hopen⟩ := hcl.here
  have hcl₀ := X.warmed.classLinks hcl
  have hW' : s.WarmedH (T.vm.noted m.cls index (.cls cT)) := X.warmed.noted hd hopen (State.rightAt_cls hcl)
  obtain ⟨ks, hks, n1, n2, n3⟩ := x_fc f1
  obtain ⟨kt0, hkt0, m1, m2, m3⟩ := x_fc f2
  obtain ⟨ks', hks', eks⟩ := hW'.alike.2.2 _ _ hks
  obtain ⟨kt', hkt', ekt⟩ := hW'.alike.2.2 _ _ hkt0
  have hmod' : modulesRight_1 (T.setVm (T.vm.noted m.cls index (.cls cT))) = true := xw_mod (u := s) hW'.alike hmod
  have hmsg := x_msg (vm := T.vm.noted m.cls index (.cls cT)) hmod' (a := ks') (b := kt') (by rw [eks]; show ks.name ∈ xMs; rw [n1]; exact hC) (by rw [ekt]; show kt0.name ∈ xMs; rw [m1]; exact hnm) (by rw [eks]; exact n2) (by rw [ekt]; exact m2) (by rw [eks]; exact n3) (by rw [ekt]; exact m3)
  obtain ⟨t, st, q⟩ := k _ hmsg.1 hmsg.2 (T.setVm (T.vm.noted m.cls index (.cls cT))) hT (X.noted hW')
  refine ⟨t, ?_, q⟩
  have hdg' : decode c.code pc = .ok (.checkcast index, 3) := by rw [hb]; exact hdg
  jvm_step X.here [hx, hdg', Op.checkcast.wp_cold (e := e) (s := T) (f := F0 m pc ls (.ref a :: rest)) X.here.top rfl (resolveClass_links e.toSetting hcl₀) hcl₀.ready,
    Op.checkcast.wp_ready (e := e) (s := T.setVm (T.vm.noted m.cls index (.cls cT))) (f := F0 m pc ls (.ref a :: rest)) X.here.top hcl₀.ready rfl]
  refine ⟨cell, by rw [hT]; exact h1, VmData.noStatics_of h2, ks', hks', kt', hkt', ?_⟩
  have h4 : (T.vm.noted m.cls index (Resolved.cls cT)).assignable cell.cls cT = false := by rw [hW'.alike.assignable]; exact f3
  simp only [h4, Bool.false_eq_true, if_false]
  exact st
/-- a cast that fails, and the throw -/
theorem b_castZ (hx : p.tables.exec = Jvm.exec) (hb : c.code = cc) (hst : l.stackTraces = false) {own nm C : String} {index : Nat} (hts : ∀ w ∈ lw_all, w.before args s = true) (hown : s.vm.findClass own = some m.cls) (hlink : (Cond.classLink own index nm).before args s = true) (hW : bW D g A s H locs Bs) (hc : va_Nc C nm s) (hC : C ∈ xMs) (hnm : nm ∈ xMs) (hr : ∃ cell : Cell, H[a]? = some cell ∧ cell.vm.isStatics = false ∧ s.vm.findClass C = some cell.cls) (hsize : ls.size = c.maxLocals) (hlk : meth.locks = false) (hR : 8 < R.frames ∧ 10300 ≤ R.locals) (hrest : (rest.map fun v => v.category).sum ≤ 50) (hcs : cells + 3 ≤ R.cells ∧ slots + 1010 ≤ R.slots) (hdg : decode cc pc = .ok (.checkcast index, 3))
    (k : ∀ (H : Heap) (q : Nat) (ce : Cell), bW D g A s H locs Bs → H[q]? = some ce → ce.vm = .none → s.vm.findClass "java/lang/ClassCastException" = some ce.cls → vx_W p l e R s m args below meth c H locs (cells + 3) (slots + 1010) Q (F0 m pc ls (.ref a :: rest)) q) : W p l e R s m args below meth c H locs cells slots Q (F0 m pc ls (.ref a :: rest)) := by
  refine b_castZ0 hx hb hown hlink (b_eK hW).2.2.2.2.2.2 hc hC hnm hr hdg fun tx h1 h2 => ?_
  exact vx_vm hx hst (nb := 1000) (A := A) (names := ["java/lang/RuntimeException", "java/lang/Exception"]) (by decide +kernel) (by decide +kernel) (by decide) (by decide) (xh_C hts hW.2.2.2.2.2) xg_C (b_eK hW).2.2.2.1 (b_eK hW).2.2.2.2.1 hW.2.2.2.1 hsize h1 h2 (by decide) (by show _ + 4 < _; have := hR.1; simp; omega) (by have h8 := hR.2; have h9 : ((Value.ref a :: rest).map fun v => v.category).sum = 1 + (rest.map fun v => v.category).sum := rfl; omega) (by simp) hcs.1 hcs.2 hlk (fun H1 q ce h1 h2 h3 h4 h5 h6 => k H1 q ce (b_new2 hW h2 h3) h4 h5 h6)
end CSTN
def gAg (k : Nat) : Bool := k == 2
def gLe (k : Nat) : Bool := k == 4
def gLa (k : Nat) : Bool := k == 5
theorem g_tbA : ∀ k, k < 6 → (if gAg k then (gC k = "EverybodyHasTheBook$Against" ∨ (gC k, "EverybodyHasTheBook$Against") ∈ xwC) else (gC k, "EverybodyHasTheBook$Against") ∈ xwN) := by decide +kernel
theorem g_tbLe : ∀ k, k < 6 → (if gLe k then (gC k = "EverybodyHasTheBook$Lettered" ∨ (gC k, "EverybodyHasTheBook$Lettered") ∈ xwC) else (gC k, "EverybodyHasTheBook$Lettered") ∈ xwN) := by decide +kernel
theorem g_tbLa : ∀ k, k < 6 → (if gLa k then (gC k = "EverybodyHasTheBook$Late" ∨ (gC k, "EverybodyHasTheBook$Late") ∈ xwC) else (gC k, "EverybodyHasTheBook$Late") ∈ xwN) := by decide +kernel
theorem g_xMs : ∀ k, k < 6 → gC k ∈ xMs := by decide +kernel
theorem r_xMs : ∀ k : Nat, rN k ∈ xMs
  | 0 => by decide
  | 1 => by decide
  | 2 => by decide
  | 3 => by decide
  | k + 4 => (by decide : "[Z" ∈ xMs)
theorem r_noB {g : Nat → ClassId} {A : Nat → Prop} {s : State} (hX : XW g A s) : ∀ k : Nat, va_Nc (rN k) "EverybodyHasTheBook$Booked" s
  | 0 => b_castN hX 67 rfl
  | 1 => b_castN hX 97 rfl
  | 2 => b_castN hX 77 rfl
  | 3 => b_castN hX 87 rfl
  | k + 4 => b_castN hX 107 rfl
theorem r_noA {g : Nat → ClassId} {A : Nat → Prop} {s : State} (hX : XW g A s) : ∀ k : Nat, va_Nc (rN k) "EverybodyHasTheBook$Against" s
  | 0 => b_castN hX 66 rfl
  | 1 => b_castN hX 96 rfl
  | 2 => b_castN hX 76 rfl
  | 3 => b_castN hX 86 rfl
  | k + 4 => b_castN hX 106 rfl
theorem r_noO {g : Nat → ClassId} {A : Nat → Prop} {s : State} (hX : XW g A s) : ∀ k : Nat, va_Nc (rN k) "EverybodyHasTheBook$Own" s
  | 0 => b_castN hX 71 rfl
  | 1 => b_castN hX 101 rfl
  | 2 => b_castN hX 81 rfl
  | 3 => b_castN hX 91 rfl
  | k + 4 => b_castN hX 111 rfl
theorem r_noLe {g : Nat → ClassId} {A : Nat → Prop} {s : State} (hX : XW g A s) : ∀ k : Nat, va_Nc (rN k) "EverybodyHasTheBook$Lettered" s
  | 0 => b_castN hX 70 rfl
  | 1 => b_castN hX 100 rfl
  | 2 => b_castN hX 80 rfl
  | 3 => b_castN hX 90 rfl
  | k + 4 => b_castN hX 110 rfl
theorem r_noLa {g : Nat → ClassId} {A : Nat → Prop} {s : State} (hX : XW g A s) : ∀ k : Nat, va_Nc (rN k) "EverybodyHasTheBook$Late" s
  | 0 => b_castN hX 69 rfl
  | 1 => b_castN hX 99 rfl
  | 2 => b_castN hX 79 rfl
  | 3 => b_castN hX 89 rfl
  | k + 4 => b_castN hX 109 rfl
