/-! THE GOERS' METHODS, and the calls that a goer's class answers: printed by gen/goers.py -/
set_option maxRecDepth 100000
theorem lw_U {own : String} {idx : Nat} {C owner : String} {x y : MethodName} {b : ByteArray} {L : Nat} {r : Option FieldType} (h1 : Cond.methodLink own idx x ∈ lw_all) (h2 : Cond.sameMethod x.cls owner x.name x.desc ∈ lw_all) (h3 : Cond.selects C x y ∈ lw_all) (h4 : Cond.instanceMethod y ∈ lw_all) (h5 : Cond.initialized y.cls ∈ lw_all) (h6 : Cond.code y b L r ∈ lw_all) : GoodIn lw_all (va_wsU own idx C owner x y (ws_ y b L r)) := by
  refine lw_app ?_ (lw_meth h6)
  intro w hw
  simp only [List.mem_cons, List.not_mem_nil, or_false] at hw
  rcases hw with e | e | e | e | e <;> rw [e] <;> assumption
theorem lw_O {own : String} {idx : Nat} {C owner : String} {x y : MethodName} {b : ByteArray} {L : Nat} {r : Option FieldType} (h1 : Cond.methodLink own idx x ∈ lw_all) (h2 : Cond.sameMethod x.cls owner x.name x.desc ∈ lw_all) (h0 : Cond.instanceMethod ⟨owner, x.name, x.desc⟩ ∈ lw_all) (h3 : Cond.selects C x y ∈ lw_all) (h4 : Cond.instanceMethod y ∈ lw_all) (h5 : Cond.initialized y.cls ∈ lw_all) (h6 : Cond.code y b L r ∈ lw_all) : GoodIn lw_all (va_wsO own idx C owner x y (ws_ y b L r)) := by
  refine lw_app ?_ (lw_meth h6)
  intro w hw
  simp only [List.mem_cons, List.not_mem_nil, or_false] at hw
  rcases hw with e | e | e | e | e | e <;> rw [e] <;> assumption
theorem lw_F {own : String} {idx : Nat} {C : String} {x y : MethodName} {b : ByteArray} {L : Nat} {r : Option FieldType} (h1 : Cond.methodLink own idx x ∈ lw_all) (h3 : Cond.selects C x y ∈ lw_all) (h4 : Cond.instanceMethod y ∈ lw_all) (h5 : Cond.initialized y.cls ∈ lw_all) (h6 : Cond.code y b L r ∈ lw_all) : GoodIn lw_all (va_wsF own idx C x y (ws_ y b L r)) := by
  refine lw_app ?_ (lw_meth h6)
  intro w hw
  simp only [List.mem_cons, List.not_mem_nil, or_false] at hw
  rcases hw with e | e | e | e <;> rw [e] <;> assumption
theorem lw_SU {own : String} {idx : Nat} {y : MethodName} {b : ByteArray} {L : Nat} {r : Option FieldType} (h1 : Cond.methodLink own idx y ∈ lw_all) (h2 : Cond.sameMethod y.cls y.cls y.name y.desc ∈ lw_all) (h3 : Cond.superclass own y.cls ∈ lw_all) (h4 : Cond.instanceMethod y ∈ lw_all) (h5 : Cond.initialized y.cls ∈ lw_all) (h6 : Cond.code y b L r ∈ lw_all) : GoodIn lw_all (va_wsSU own idx y (ws_ y b L r)) := by
  refine lw_app ?_ (lw_meth h6)
  intro w hw
  simp only [List.mem_cons, List.not_mem_nil, or_false] at hw
  rcases hw with e | e | e | e | e <;> rw [e] <;> assumption
/-- a call through an interface that makes no cell -/
theorem b_call50 {p : Program} {l : Launch} {e0 : Env} {R : Room} {s : State} {m : MethodId} {args : Array Value} {below : List Frame} {meth : Method} {c : Code} {H : Heap} {locs : List Loc} {cells slots : Nat} {Q : State → Prop} {pc : Nat} {ls : Array Slot} {rest : List Value} {D : va_G} {g : Nat → ClassId} {A : Nat → Prop} {Bs : List va_W} {S : Type} {av : Array Value} {st0 : List Value} {mc ms : Nat} {wc wr : List va_W} {ok : S → Prop} {rv : S → Option Value} {w1 : S → List va_W} (hm : mc = 0 ∧ ms = 0) (hr : va_Run5 p l e0 R s m args below meth c H locs cells slots mc ms (F0 m pc ls st0) rest (bQ D H.size wc ok rv w1 av) (bA wc H.size)) (hW : bW D g A s H locs Bs) (hp : Bs.Perm (wc ++ wr))
    (kk : ∀ u : S, ok u → ∀ (H : Heap) (locs : List Loc), bW D g A s H locs (w1 u ++ wr) → W p l e0 R s m args below meth c H locs cells slots Q (F0 m (pc + 5) ls ((rv u).toList ++ rest))) : W p l e0 R s m args below meth c H locs cells slots Q (F0 m pc ls st0) := by
  obtain ⟨rfl, rfl⟩ := hm
  exact b_call5 hr hW hp kk

def f_X5_kind (z : Nat) : Option Int32 :=
 some 0
abbrev rm_X5_kind : Room := { frames := 0, cells := 0, slots := 0, locals := 0 }
set_option maxHeartbeats 4000000 in
set_option maxRecDepth 100000 in
theorem m_X5_kind (l : Launch) (D : va_G) (g : Nat → ClassId) (sz : Nat)  (z : Nat) (rO : Int32) (hf : f_X5_kind z = some rO) : bMet (S := Unit) l yX5_kind (ws_ yX5_kind cX5_kind 1 (some .int)) rm_X5_kind D g sz [.ref z] [] (fun _ => True) (fun _ => some (.int rO)) (fun _ => []) := by
  refine b_met (by decide) (Nat.le_of_ble_eq_true rfl) ?_
  intro p e s m args below meth c A Q ls hx hb hml hr hlk hown hname hts hE hl hW
  revert hW; generalize s.heap = H; intro hW
  have hl : lv_has ls 1 [(0, .ref z)] := hl
  rw [f_X5_kind] at hf
  refine lv_iconst (v := 0) hx hb dX5_kind_0 (by decide) ?_
  cases hf
  exact b_iret hx hb hr hlk hE hW () rfl trivial rfl dX5_kind_1
def f_X6_kind (z : Nat) : Option Int32 :=
 some 1
abbrev rm_X6_kind : Room := { frames := 0, cells := 0, slots := 0, locals := 0 }
set_option maxHeartbeats 4000000 in
set_option maxRecDepth 100000 in
theorem m_X6_kind (l : Launch) (D : va_G) (g : Nat → ClassId) (sz : Nat)  (z : Nat) (rO : Int32) (hf : f_X6_kind z = some rO) : bMet (S := Unit) l yX6_kind (ws_ yX6_kind cX6_kind 1 (some .int)) rm_X6_kind D g sz [.ref z] [] (fun _ => True) (fun _ => some (.int rO)) (fun _ => []) := by
  refine b_met (by decide) (Nat.le_of_ble_eq_true rfl) ?_
  intro p e s m args below meth c A Q ls hx hb hml hr hlk hown hname hts hE hl hW
  revert hW; generalize s.heap = H; intro hW
  have hl : lv_has ls 1 [(0, .ref z)] := hl
  rw [f_X6_kind] at hf
  refine lv_iconst (v := 1) hx hb dX6_kind_0 (by decide) ?_
  cases hf
  exact b_iret hx hb hr hlk hE hW () rfl trivial rfl dX6_kind_1
def f_X7_kind (z : Nat) : Option Int32 :=
 some 2
abbrev rm_X7_kind : Room := { frames := 0, cells := 0, slots := 0, locals := 0 }
set_option maxHeartbeats 4000000 in
set_option maxRecDepth 100000 in
theorem m_X7_kind (l : Launch) (D : va_G) (g : Nat → ClassId) (sz : Nat)  (z : Nat) (rO : Int32) (hf : f_X7_kind z = some rO) : bMet (S := Unit) l yX7_kind (ws_ yX7_kind cX7_kind 1 (some .int)) rm_X7_kind D g sz [.ref z] [] (fun _ => True) (fun _ => some (.int rO)) (fun _ => []) := by
  refine b_met (by decide) (Nat.le_of_ble_eq_true rfl) ?_
  intro p e s m args below meth c A Q ls hx hb hml hr hlk hown hname hts hE hl hW
  revert hW; generalize s.heap = H; intro hW
  have hl : lv_has ls 1 [(0, .ref z)] := hl
  rw [f_X7_kind] at hf
  refine lv_iconst (v := 2) hx hb dX7_kind_0 (by decide) ?_
  cases hf
  exact b_iret hx hb hr hlk hE hW () rfl trivial rfl dX7_kind_1
def f_X8_kind (z : Nat) : Option Int32 :=
 some 3
abbrev rm_X8_kind : Room := { frames := 0, cells := 0, slots := 0, locals := 0 }
set_option maxHeartbeats 4000000 in
set_option maxRecDepth 100000 in
theorem m_X8_kind (l : Launch) (D : va_G) (g : Nat → ClassId) (sz : Nat)  (z : Nat) (rO : Int32) (hf : f_X8_kind z = some rO) : bMet (S := Unit) l yX8_kind (ws_ yX8_kind cX8_kind 1 (some .int)) rm_X8_kind D g sz [.ref z] [] (fun _ => True) (fun _ => some (.int rO)) (fun _ => []) := by
  refine b_met (by decide) (Nat.le_of_ble_eq_true rfl) ?_
  intro p e s m args below meth c A Q ls hx hb hml hr hlk hown hname hts hE hl hW
  revert hW; generalize s.heap = H; intro hW
  have hl : lv_has ls 1 [(0, .ref z)] := hl
  rw [f_X8_kind] at hf
  refine lv_iconst (v := 3) hx hb dX8_kind_0 (by decide) ?_
  cases hf
  exact b_iret hx hb hr hlk hE hW () rfl trivial rfl dX8_kind_1
def f_X9_kind (z : Nat) : Option Int32 :=
 some 4
abbrev rm_X9_kind : Room := { frames := 0, cells := 0, slots := 0, locals := 0 }
set_option maxHeartbeats 4000000 in
set_option maxRecDepth 100000 in
theorem m_X9_kind (l : Launch) (D : va_G) (g : Nat → ClassId) (sz : Nat)  (z : Nat) (rO : Int32) (hf : f_X9_kind z = some rO) : bMet (S := Unit) l yX9_kind (ws_ yX9_kind cX9_kind 1 (some .int)) rm_X9_kind D g sz [.ref z] [] (fun _ => True) (fun _ => some (.int rO)) (fun _ => []) := by
  refine b_met (by decide) (Nat.le_of_ble_eq_true rfl) ?_
  intro p e s m args below meth c A Q ls hx hb hml hr hlk hown hname hts hE hl hW
  revert hW; generalize s.heap = H; intro hW
  have hl : lv_has ls 1 [(0, .ref z)] := hl
  rw [f_X9_kind] at hf
  refine lv_iconst (v := 4) hx hb dX9_kind_0 (by decide) ?_
  cases hf
  exact b_iret hx hb hr hlk hE hW () rfl trivial rfl dX9_kind_1
def f_X10_kind (z : Nat) : Option Int32 :=
 some 5
abbrev rm_X10_kind : Room := { frames := 0, cells := 0, slots := 0, locals := 0 }
set_option maxHeartbeats 4000000 in
set_option maxRecDepth 100000 in
theorem m_X10_kind (l : Launch) (D : va_G) (g : Nat → ClassId) (sz : Nat)  (z : Nat) (rO : Int32) (hf : f_X10_kind z = some rO) : bMet (S := Unit) l yX10_kind (ws_ yX10_kind cX10_kind 1 (some .int)) rm_X10_kind D g sz [.ref z] [] (fun _ => True) (fun _ => some (.int rO)) (fun _ => []) := by
  refine b_met (by decide) (Nat.le_of_ble_eq_true rfl) ?_
  intro p e s m args below meth c A Q ls hx hb hml hr hlk hown hname hts hE hl hW
  revert hW; generalize s.heap = H; intro hW
  have hl : lv_has ls 1 [(0, .ref z)] := hl
  rw [f_X10_kind] at hf
  refine lv_iconst (v := 5) hx hb dX10_kind_0 (by decide) ?_
  cases hf
  exact b_iret hx hb hr hlk hE hW () rfl trivial rfl dX10_kind_1
def f_X5_isLate (z : Nat) : Option Int32 :=
 some 0
abbrev rm_X5_isLate : Room := { frames := 0, cells := 0, slots := 0, locals := 0 }
set_option maxHeartbeats 4000000 in
set_option maxRecDepth 100000 in
theorem m_X5_isLate (l : Launch) (D : va_G) (g : Nat → ClassId) (sz : Nat)  (z : Nat) (rO : Int32) (hf : f_X5_isLate z = some rO) : bMet (S := Unit) l yX5_isLate (ws_ yX5_isLate cX5_isLate 1 (some .boolean)) rm_X5_isLate D g sz [.ref z] [] (fun _ => True) (fun _ => some (.int rO)) (fun _ => []) := by
  refine b_met (by decide) (Nat.le_of_ble_eq_true rfl) ?_
  intro p e s m args below meth c A Q ls hx hb hml hr hlk hown hname hts hE hl hW
  revert hW; generalize s.heap = H; intro hW
  have hl : lv_has ls 1 [(0, .ref z)] := hl
  rw [f_X5_isLate] at hf
  refine lv_iconst (v := 0) hx hb dX5_isLate_0 (by decide) ?_
  cases hf
  exact b_zret hx hb hr hlk hE hW () rfl trivial rfl (by decide) dX5_isLate_1
def f_X10_isLate (z : Nat) : Option Int32 :=
 some 1
abbrev rm_X10_isLate : Room := { frames := 0, cells := 0, slots := 0, locals := 0 }
set_option maxHeartbeats 4000000 in
set_option maxRecDepth 100000 in
theorem m_X10_isLate (l : Launch) (D : va_G) (g : Nat → ClassId) (sz : Nat)  (z : Nat) (rO : Int32) (hf : f_X10_isLate z = some rO) : bMet (S := Unit) l yX10_isLate (ws_ yX10_isLate cX10_isLate 1 (some .boolean)) rm_X10_isLate D g sz [.ref z] [] (fun _ => True) (fun _ => some (.int rO)) (fun _ => []) := by
  refine b_met (by decide) (Nat.le_of_ble_eq_true rfl) ?_
  intro p e s m args below meth c A Q ls hx hb hml hr hlk hown hname hts hE hl hW
  revert hW; generalize s.heap = H; intro hW
  have hl : lv_has ls 1 [(0, .ref z)] := hl
  rw [f_X10_isLate] at hf
  refine lv_iconst (v := 1) hx hb dX10_isLate_0 (by decide) ?_
  cases hf
  exact b_zret hx hb hr hlk hE hW () rfl trivial rfl (by decide) dX10_isLate_1
def fg_late (kd : Nat → Nat) (z : Nat) : Option Int32 := if kd z = 0 then f_X5_isLate z else if kd z = 1 then f_X5_isLate z else if kd z = 2 then f_X5_isLate z else if kd z = 3 then f_X5_isLate z else if kd z = 4 then f_X5_isLate z else if kd z = 5 then f_X10_isLate z else none
set_option maxHeartbeats 4000000 in
theorem b_gv_late {p : Program} {l : Launch} {e : Env} {R : Room} {s : State} {m : MethodId} {args : Array Value} {below : List Frame} {meth : Method} {c : Code} {H : Heap} {locs : List Loc} {cells slots : Nat} {Q : State → Prop} {cc : ByteArray} {pc : Nat} {ls : Array Slot} {rest : List Value} {D : va_G} {g : Nat → ClassId} {A : Nat → Prop} {Bs wr : List va_W} {L : List Nat} {kd : Nat → Nat} {nu aa : Nat → Int32} {own : String} {index nL : Nat} {z : Nat} {r : Int32}
    (S : CallFix p m c cc nL s args lw_all own) (hl : Cond.methodLink own index ⟨"EverybodyHasTheBook$Goer", "isLate", "()Z"⟩ ∈ lw_all) (hW : bW D g A s H locs Bs) (hp : Bs.Perm ([] ++ wr)) (pp : Nat) (hpp : Bs[pp]? = some (gW L kd nu aa)) (hz : gIn L kd z = true) (hf : fg_late kd z = some r) (hR : 1 ≤ R.frames ∧ 20 ≤ R.locals) (hsz : ls.size = nL) (hrm : (rest.map fun v => v.category).sum ≤ 8) (hcs : cells ≤ R.cells ∧ slots ≤ R.slots) (hdg : decode cc pc = .ok (.invokevirtual index, 3))
    (kk : ∀ (H : Heap) (locs : List Loc), bW D g A s H locs ([] ++ wr) → W p l e R s m args below meth c H locs cells slots Q (F0 m (pc + 3) ls (.int r :: rest))) : W p l e R s m args below meth c H locs cells slots Q (F0 m pc ls (.ref z :: rest)) := by
  obtain ⟨hz1, hz2⟩ := gIn_1 hz
  have hrc := g_recv hW pp hpp hz
  have hat := g_at hW hz2
  rw [fg_late] at hf
  by_cases hk0 : kd z = 0
  · have hf := o_t hf hk0
    rw [hk0] at hrc hat
    exact b_call0 ⟨rfl, rfl⟩ (va_runU (As := []) S (m_X5_isLate l D g H.size z r hf) (va_cwU (x := ⟨"EverybodyHasTheBook$Goer", "isLate", "()Z"⟩) (y := ⟨"EverybodyHasTheBook$Goer", "isLate", "()Z"⟩) 0 S.2.2.2.2 (lw_U hl q1149 q1148 q1147 q93 q1157) rfl rfl rfl rfl (by decide +kernel) ⟨Nat.le_trans (Nat.le_of_ble_eq_true rfl) hR.1, Nat.le_trans (Nat.le_of_ble_eq_true rfl) hR.2⟩) ⟨b_blind, hrc, b_pre hW hp⟩ rfl rfl hsz rfl (lv_room hrm) hdg hcs) hW hp (fun _ _ H locs hW => kk H locs hW)
  have hf := o_f hf hk0
  by_cases hk1 : kd z = 1
  · have hf := o_t hf hk1
    rw [hk1] at hrc hat
    exact b_call0 ⟨rfl, rfl⟩ (va_runU (As := []) S (m_X5_isLate l D g H.size z r hf) (va_cwU (x := ⟨"EverybodyHasTheBook$Goer", "isLate", "()Z"⟩) (y := ⟨"EverybodyHasTheBook$Goer", "isLate", "()Z"⟩) 0 S.2.2.2.2 (lw_U hl q1149 q1151 q1147 q93 q1157) rfl rfl rfl rfl (by decide +kernel) ⟨Nat.le_trans (Nat.le_of_ble_eq_true rfl) hR.1, Nat.le_trans (Nat.le_of_ble_eq_true rfl) hR.2⟩) ⟨b_blind, hrc, b_pre hW hp⟩ rfl rfl hsz rfl (lv_room hrm) hdg hcs) hW hp (fun _ _ H locs hW => kk H locs hW)
  have hf := o_f hf hk1
  by_cases hk2 : kd z = 2
  · have hf := o_t hf hk2
    rw [hk2] at hrc hat
    exact b_call0 ⟨rfl, rfl⟩ (va_runU (As := []) S (m_X5_isLate l D g H.size z r hf) (va_cwU (x := ⟨"EverybodyHasTheBook$Goer", "isLate", "()Z"⟩) (y := ⟨"EverybodyHasTheBook$Goer", "isLate", "()Z"⟩) 0 S.2.2.2.2 (lw_U hl q1149 q1150 q1147 q93 q1157) rfl rfl rfl rfl (by decide +kernel) ⟨Nat.le_trans (Nat.le_of_ble_eq_true rfl) hR.1, Nat.le_trans (Nat.le_of_ble_eq_true rfl) hR.2⟩) ⟨b_blind, hrc, b_pre hW hp⟩ rfl rfl hsz rfl (lv_room hrm) hdg hcs) hW hp (fun _ _ H locs hW => kk H locs hW)
  have hf := o_f hf hk2
  by_cases hk3 : kd z = 3
  · have hf := o_t hf hk3
    rw [hk3] at hrc hat
    exact b_call0 ⟨rfl, rfl⟩ (va_runU (As := []) S (m_X5_isLate l D g H.size z r hf) (va_cwU (x := ⟨"EverybodyHasTheBook$Goer", "isLate", "()Z"⟩) (y := ⟨"EverybodyHasTheBook$Goer", "isLate", "()Z"⟩) 0 S.2.2.2.2 (lw_U hl q1149 q1156 q1147 q93 q1157) rfl rfl rfl rfl (by decide +kernel) ⟨Nat.le_trans (Nat.le_of_ble_eq_true rfl) hR.1, Nat.le_trans (Nat.le_of_ble_eq_true rfl) hR.2⟩) ⟨b_blind, hrc, b_pre hW hp⟩ rfl rfl hsz rfl (lv_room hrm) hdg hcs) hW hp (fun _ _ H locs hW => kk H locs hW)
  have hf := o_f hf hk3
  by_cases hk4 : kd z = 4
  · have hf := o_t hf hk4
    rw [hk4] at hrc hat
    exact b_call0 ⟨rfl, rfl⟩ (va_runU (As := []) S (m_X5_isLate l D g H.size z r hf) (va_cwU (x := ⟨"EverybodyHasTheBook$Goer", "isLate", "()Z"⟩) (y := ⟨"EverybodyHasTheBook$Goer", "isLate", "()Z"⟩) 0 S.2.2.2.2 (lw_U hl q1149 q1155 q1147 q93 q1157) rfl rfl rfl rfl (by decide +kernel) ⟨Nat.le_trans (Nat.le_of_ble_eq_true rfl) hR.1, Nat.le_trans (Nat.le_of_ble_eq_true rfl) hR.2⟩) ⟨b_blind, hrc, b_pre hW hp⟩ rfl rfl hsz rfl (lv_room hrm) hdg hcs) hW hp (fun _ _ H locs hW => kk H locs hW)
  have hf := o_f hf hk4
  by_cases hk5 : kd z = 5
  · have hf := o_t hf hk5
    rw [hk5] at hrc hat
    exact b_call0 ⟨rfl, rfl⟩ (va_runU (As := []) S (m_X10_isLate l D g H.size z r hf) (va_cwO (x := ⟨"EverybodyHasTheBook$Goer", "isLate", "()Z"⟩) (y := ⟨"EverybodyHasTheBook$Late", "isLate", "()Z"⟩) 0 S.2.2.2.2 (lw_O hl q1149 q1147 q1152 q1153 q98 q1154) rfl rfl rfl q1157 (by decide +kernel) ⟨Nat.le_trans (Nat.le_of_ble_eq_true rfl) hR.1, Nat.le_trans (Nat.le_of_ble_eq_true rfl) hR.2⟩) ⟨b_blind, hrc, b_pre hW hp⟩ rfl rfl hsz rfl (lv_room hrm) hdg hcs) hW hp (fun _ _ H locs hW => kk H locs hW)
  have hf := o_f hf hk5
  cases hf
def fg_kind (kd : Nat → Nat) (z : Nat) : Option Int32 := if kd z = 0 then f_X5_kind z else if kd z = 1 then f_X6_kind z else if kd z = 2 then f_X7_kind z else if kd z = 3 then f_X8_kind z else if kd z = 4 then f_X9_kind z else if kd z = 5 then f_X10_kind z else none
set_option maxHeartbeats 4000000 in
theorem b_gv_kind {p : Program} {l : Launch} {e : Env} {R : Room} {s : State} {m : MethodId} {args : Array Value} {below : List Frame} {meth : Method} {c : Code} {H : Heap} {locs : List Loc} {cells slots : Nat} {Q : State → Prop} {cc : ByteArray} {pc : Nat} {ls : Array Slot} {rest : List Value} {D : va_G} {g : Nat → ClassId} {A : Nat → Prop} {Bs wr : List va_W} {L : List Nat} {kd : Nat → Nat} {nu aa : Nat → Int32} {own : String} {index nL : Nat} {z : Nat} {r : Int32}
    (S : CallFix p m c cc nL s args lw_all own) (hl : Cond.methodLink own index ⟨"EverybodyHasTheBook$Goer", "kind", "()I"⟩ ∈ lw_all) (hW : bW D g A s H locs Bs) (hp : Bs.Perm ([] ++ wr)) (pp : Nat) (hpp : Bs[pp]? = some (gW L kd nu aa)) (hz : gIn L kd z = true) (hf : fg_kind kd z = some r) (hR : 1 ≤ R.frames ∧ 20 ≤ R.locals) (hsz : ls.size = nL) (hrm : (rest.map fun v => v.category).sum ≤ 8) (hcs : cells ≤ R.cells ∧ slots ≤ R.slots) (hdg : decode cc pc = .ok (.invokevirtual index, 3))
    (kk : ∀ (H : Heap) (locs : List Loc), bW D g A s H locs ([] ++ wr) → W p l e R s m args below meth c H locs cells slots Q (F0 m (pc + 3) ls (.int r :: rest))) : W p l e R s m args below meth c H locs cells slots Q (F0 m pc ls (.ref z :: rest)) := by
  obtain ⟨hz1, hz2⟩ := gIn_1 hz
  have hrc := g_recv hW pp hpp hz
  have hat := g_at hW hz2
  rw [fg_kind] at hf
  by_cases hk0 : kd z = 0
  · have hf := o_t hf hk0
    rw [hk0] at hrc hat
    exact b_call0 ⟨rfl, rfl⟩ (va_runU (As := []) S (m_X5_kind l D g H.size z r hf) (va_cwU (x := ⟨"EverybodyHasTheBook$Goer", "kind", "()I"⟩) (y := ⟨"EverybodyHasTheBook$Goer", "kind", "()I"⟩) 0 S.2.2.2.2 (lw_U hl q1104 q1103 q1102 q93 q1120) rfl rfl rfl rfl (by decide +kernel) ⟨Nat.le_trans (Nat.le_of_ble_eq_true rfl) hR.1, Nat.le_trans (Nat.le_of_ble_eq_true rfl) hR.2⟩) ⟨b_blind, hrc, b_pre hW hp⟩ rfl rfl hsz rfl (lv_room hrm) hdg hcs) hW hp (fun _ _ H locs hW => kk H locs hW)
  have hf := o_f hf hk0
  by_cases hk1 : kd z = 1
  · have hf := o_t hf hk1
    rw [hk1] at hrc hat
    exact b_call0 ⟨rfl, rfl⟩ (va_runU (As := []) S (m_X6_kind l D g H.size z r hf) (va_cwO (x := ⟨"EverybodyHasTheBook$Goer", "kind", "()I"⟩) (y := ⟨"EverybodyHasTheBook$Booked", "kind", "()I"⟩) 0 S.2.2.2.2 (lw_O hl q1104 q1102 q1108 q1109 q94 q1110) rfl rfl rfl q1120 (by decide +kernel) ⟨Nat.le_trans (Nat.le_of_ble_eq_true rfl) hR.1, Nat.le_trans (Nat.le_of_ble_eq_true rfl) hR.2⟩) ⟨b_blind, hrc, b_pre hW hp⟩ rfl rfl hsz rfl (lv_room hrm) hdg hcs) hW hp (fun _ _ H locs hW => kk H locs hW)
  have hf := o_f hf hk1
  by_cases hk2 : kd z = 2
  · have hf := o_t hf hk2
    rw [hk2] at hrc hat
    exact b_call0 ⟨rfl, rfl⟩ (va_runU (As := []) S (m_X7_kind l D g H.size z r hf) (va_cwO (x := ⟨"EverybodyHasTheBook$Goer", "kind", "()I"⟩) (y := ⟨"EverybodyHasTheBook$Against", "kind", "()I"⟩) 0 S.2.2.2.2 (lw_O hl q1104 q1102 q1105 q1106 q95 q1107) rfl rfl rfl q1120 (by decide +kernel) ⟨Nat.le_trans (Nat.le_of_ble_eq_true rfl) hR.1, Nat.le_trans (Nat.le_of_ble_eq_true rfl) hR.2⟩) ⟨b_blind, hrc, b_pre hW hp⟩ rfl rfl hsz rfl (lv_room hrm) hdg hcs) hW hp (fun _ _ H locs hW => kk H locs hW)
  have hf := o_f hf hk2
  by_cases hk3 : kd z = 3
  · have hf := o_t hf hk3
    rw [hk3] at hrc hat
    exact b_call0 ⟨rfl, rfl⟩ (va_runU (As := []) S (m_X8_kind l D g H.size z r hf) (va_cwO (x := ⟨"EverybodyHasTheBook$Goer", "kind", "()I"⟩) (y := ⟨"EverybodyHasTheBook$Own", "kind", "()I"⟩) 0 S.2.2.2.2 (lw_O hl q1104 q1102 q1117 q1118 q96 q1119) rfl rfl rfl q1120 (by decide +kernel) ⟨Nat.le_trans (Nat.le_of_ble_eq_true rfl) hR.1, Nat.le_trans (Nat.le_of_ble_eq_true rfl) hR.2⟩) ⟨b_blind, hrc, b_pre hW hp⟩ rfl rfl hsz rfl (lv_room hrm) hdg hcs) hW hp (fun _ _ H locs hW => kk H locs hW)
  have hf := o_f hf hk3
  by_cases hk4 : kd z = 4
  · have hf := o_t hf hk4
    rw [hk4] at hrc hat
    exact b_call0 ⟨rfl, rfl⟩ (va_runU (As := []) S (m_X9_kind l D g H.size z r hf) (va_cwO (x := ⟨"EverybodyHasTheBook$Goer", "kind", "()I"⟩) (y := ⟨"EverybodyHasTheBook$Lettered", "kind", "()I"⟩) 0 S.2.2.2.2 (lw_O hl q1104 q1102 q1114 q1115 q97 q1116) rfl rfl rfl q1120 (by decide +kernel) ⟨Nat.le_trans (Nat.le_of_ble_eq_true rfl) hR.1, Nat.le_trans (Nat.le_of_ble_eq_true rfl) hR.2⟩) ⟨b_blind, hrc, b_pre hW hp⟩ rfl rfl hsz rfl (lv_room hrm) hdg hcs) hW hp (fun _ _ H locs hW => kk H locs hW)
  have hf := o_f hf hk4
  by_cases hk5 : kd z = 5
  · have hf := o_t hf hk5
    rw [hk5] at hrc hat
    exact b_call0 ⟨rfl, rfl⟩ (va_runU (As := []) S (m_X10_kind l D g H.size z r hf) (va_cwO (x := ⟨"EverybodyHasTheBook$Goer", "kind", "()I"⟩) (y := ⟨"EverybodyHasTheBook$Late", "kind", "()I"⟩) 0 S.2.2.2.2 (lw_O hl q1104 q1102 q1111 q1112 q98 q1113) rfl rfl rfl q1120 (by decide +kernel) ⟨Nat.le_trans (Nat.le_of_ble_eq_true rfl) hR.1, Nat.le_trans (Nat.le_of_ble_eq_true rfl) hR.2⟩) ⟨b_blind, hrc, b_pre hW hp⟩ rfl rfl hsz rfl (lv_room hrm) hdg hcs) hW hp (fun _ _ H locs hW => kk H locs hW)
  have hf := o_f hf hk5
  cases hf
def f_X5_score (V : BC) (L : List Nat) (kd : Nat → Nat) (nu : Nat → Int32) (aa : Nat → Int32) (z : Nat) (x2 : Int32) : Option Int32 :=
 o_ck (inB x2 6) (some (100 - (V.1 4 (ix x2))))
abbrev rm_X5_score : Room := { frames := 0, cells := 0, slots := 0, locals := 0 }
set_option maxHeartbeats 4000000 in
set_option maxRecDepth 100000 in
theorem m_X5_score (l : Launch) (D : va_G) (g : Nat → ClassId) (sz : Nat) (adV : Nat → Nat) (V : BC) (L : List Nat) (kd : Nat → Nat) (nu : Nat → Int32) (aa : Nat → Int32) (z : Nat) (x2 : Int32) (rO : Int32) (hf : f_X5_score V L kd nu aa z x2 = some rO) : bMet (S := Unit) l yX5_score (ws_ yX5_score cX5_score 3 (some .int)) rm_X5_score D g sz [.ref z, .ref (adV 0), .int x2] [vW g adV V, gW L kd nu aa] (fun _ => True) (fun _ => some (.int rO)) (fun _ => [vW g adV V, gW L kd nu aa]) := by
  refine b_met (by decide) (Nat.le_of_ble_eq_true rfl) ?_
  intro p e s m args below meth c A Q ls hx hb hml hr hlk hown hname hts hE hl hW
  revert hW; generalize s.heap = H; intro hW
  have hl : lv_has ls 3 [(0, .ref z), (1, .ref (adV 0)), (2, .int x2)] := hl
  rw [f_X5_score] at hf
  refine lv_bipush (v := 100) hx hb dX5_score_0 (by decide) ?_
  refine lv_aload_n hx hb dX5_score_2 rfl (lv_at hl 1 rfl) ?_
  refine b_get hx hb hts in_X1 hown hW 0 0 1 3 rfl vW_0 rfl (by decide) ⟨rfl, rfl, rfl⟩ (hts _ q138) vW_g3 dX5_score_3 ?_
  refine lv_iload_n hx hb dX5_score_6 rfl (lv_at hl 2 rfl) ?_
  obtain ⟨h1, hf⟩ := o_cs hf
  refine b_iald hx hb hW 0 4 rfl vW_4 h1 dX5_score_7 ?_
  refine lv_isub hx hb dX5_score_8 ?_
  cases hf
  exact b_iret hx hb hr hlk hE hW () rfl trivial rfl dX5_score_9
def f_X6_said (V : BC) (L : List Nat) (kd : Nat → Nat) (nu : Nat → Int32) (aa : Nat → Int32) (z : Nat) (x2 : Int32) : Option Int32 :=
 o_ck (inB x2 6) ((if (V.1 5 (ix x2)) = (-1) then
 some 0
 else
 o_lt ((if (0 : Int32) < ((V.1 5 (ix x2)) - (2 * (V.1 0 2))) then ((V.1 5 (ix x2)) - (2 * (V.1 0 2))) else (0 : Int32))) fun (v3 : Int32) =>
 some v3))
abbrev rm_X6_said : Room := { frames := 1, cells := 0, slots := 0, locals := 24 }
set_option maxHeartbeats 4000000 in
set_option maxRecDepth 100000 in
theorem m_X6_said (l : Launch) (D : va_G) (g : Nat → ClassId) (sz : Nat) (adV : Nat → Nat) (V : BC) (L : List Nat) (kd : Nat → Nat) (nu : Nat → Int32) (aa : Nat → Int32) (z : Nat) (x2 : Int32) (rO : Int32) (hf : f_X6_said V L kd nu aa z x2 = some rO) : bMet (S := Unit) l yX6_said (ws_ yX6_said cX6_said 3 (some .int)) rm_X6_said D g sz [.ref z, .ref (adV 0), .int x2] [vW g adV V, gW L kd nu aa] (fun _ => True) (fun _ => some (.int rO)) (fun _ => [vW g adV V, gW L kd nu aa]) := by
  refine b_met (by decide) (Nat.le_of_ble_eq_true rfl) ?_
  intro p e s m args below meth c A Q ls hx hb hml hr hlk hown hname hts hE hl hW
  revert hW; generalize s.heap = H; intro hW
  have hl : lv_has ls 3 [(0, .ref z), (1, .ref (adV 0)), (2, .int x2)] := hl
  rw [f_X6_said] at hf
  refine lv_aload_n hx hb dX6_said_0 rfl (lv_at hl 1 rfl) ?_
  refine b_get hx hb hts in_X1 hown hW 0 0 1 4 rfl vW_0 rfl (by decide) ⟨rfl, rfl, rfl⟩ (hts _ q143) vW_g4 dX6_said_1 ?_
  refine lv_iload_n hx hb dX6_said_4 rfl (lv_at hl 2 rfl) ?_
  obtain ⟨h1, hf⟩ := o_cs hf
  refine b_iald hx hb hW 0 5 rfl vW_5 h1 dX6_said_5 ?_
  refine lv_iconst (v := (-1)) hx hb dX6_said_6 (by decide) ?_
  refine lv_icmp_ne (tgt := 14) hx hb dX6_said_7 (by decide) (fun c2 => ?_) (fun c2 => ?_)
  · have hf := o_f hf c2
    refine lv_iconst (v := 0) hx hb dX6_said_14 (by decide) ?_
    refine lv_aload_n hx hb dX6_said_15 rfl (lv_at hl 1 rfl) ?_
    refine b_get hx hb hts in_X1 hown hW 0 0 1 4 rfl vW_0 rfl (by decide) ⟨rfl, rfl, rfl⟩ (hts _ q143) vW_g4 dX6_said_16 ?_
    refine lv_iload_n hx hb dX6_said_19 rfl (lv_at hl 2 rfl) ?_
    refine b_iald hx hb hW 0 5 rfl vW_5 h1 dX6_said_20 ?_
    refine lv_iconst (v := 2) hx hb dX6_said_21 (by decide) ?_
    refine lv_aload_n hx hb dX6_said_22 rfl (lv_at hl 1 rfl) ?_
    refine b_get hx hb hts in_X1 hown hW 0 0 1 14 rfl vW_0 rfl (by decide) ⟨rfl, rfl, rfl⟩ (hts _ q171) vW_g14 dX6_said_23 ?_
    refine lv_imul hx hb dX6_said_26 ?_
    refine lv_isub hx hb dX6_said_27 ?_
    refine va_mmax hx hb (by rw [hml]; exact hl.1.symm) hown (hts _ q559) (hts _ q560) (hts _ q92) (hts _ q561) (Nat.le_of_ble_eq_true rfl) (Nat.le_of_ble_eq_true rfl) (Nat.le_of_ble_eq_true rfl) (Nat.le_of_ble_eq_true rfl) dX6_said_28 ?_
    obtain ⟨v3, ev3, hf⟩ := o_ls hf
    refine b_topi ev3 ?_
    cases hf
    exact b_iret hx hb hr hlk hE hW () rfl trivial rfl dX6_said_31
  · have hf := o_t hf c2
    refine lv_iconst (v := 0) hx hb dX6_said_10 (by decide) ?_
    refine lv_goto (tgt := 31) hx hb dX6_said_11 (by decide) ?_
    cases hf
    exact b_iret hx hb hr hlk hE hW () rfl trivial rfl dX6_said_31
def f_X8_score (V : BC) (L : List Nat) (kd : Nat → Nat) (nu : Nat → Int32) (aa : Nat → Int32) (z : Nat) (x2 : Int32) : Option Int32 :=
 o_ck (inB x2 6) (some ((V.1 1 (ix x2)) - ((V.1 4 (ix x2)) / 2)))
abbrev rm_X8_score : Room := { frames := 0, cells := 0, slots := 0, locals := 0 }
set_option maxHeartbeats 4000000 in
set_option maxRecDepth 100000 in
theorem m_X8_score (l : Launch) (D : va_G) (g : Nat → ClassId) (sz : Nat) (adV : Nat → Nat) (V : BC) (L : List Nat) (kd : Nat → Nat) (nu : Nat → Int32) (aa : Nat → Int32) (z : Nat) (x2 : Int32) (rO : Int32) (hf : f_X8_score V L kd nu aa z x2 = some rO) : bMet (S := Unit) l yX8_score (ws_ yX8_score cX8_score 3 (some .int)) rm_X8_score D g sz [.ref z, .ref (adV 0), .int x2] [vW g adV V, gW L kd nu aa] (fun _ => True) (fun _ => some (.int rO)) (fun _ => [vW g adV V, gW L kd nu aa]) := by
  refine b_met (by decide) (Nat.le_of_ble_eq_true rfl) ?_
  intro p e s m args below meth c A Q ls hx hb hml hr hlk hown hname hts hE hl hW
  revert hW; generalize s.heap = H; intro hW
  have hl : lv_has ls 3 [(0, .ref z), (1, .ref (adV 0)), (2, .int x2)] := hl
  rw [f_X8_score] at hf
  refine lv_aload_n hx hb dX8_score_0 rfl (lv_at hl 1 rfl) ?_
  refine b_get hx hb hts in_X1 hown hW 0 0 1 0 rfl vW_0 rfl (by decide) ⟨rfl, rfl, rfl⟩ (hts _ q130) vW_g0 dX8_score_1 ?_
  refine lv_iload_n hx hb dX8_score_4 rfl (lv_at hl 2 rfl) ?_
  obtain ⟨h1, hf⟩ := o_cs hf
  refine b_iald hx hb hW 0 1 rfl vW_1 h1 dX8_score_5 ?_
  refine lv_aload_n hx hb dX8_score_6 rfl (lv_at hl 1 rfl) ?_
  refine b_get hx hb hts in_X1 hown hW 0 0 1 3 rfl vW_0 rfl (by decide) ⟨rfl, rfl, rfl⟩ (hts _ q137) vW_g3 dX8_score_7 ?_
  refine lv_iload_n hx hb dX8_score_10 rfl (lv_at hl 2 rfl) ?_
  refine b_iald hx hb hW 0 4 rfl vW_4 h1 dX8_score_11 ?_
  refine lv_iconst (v := 2) hx hb dX8_score_12 (by decide) ?_
  refine lv_idiv hx hb dX8_score_13 (by decide) ?_
  refine lv_isub hx hb dX8_score_14 ?_
  cases hf
  exact b_iret hx hb hr hlk hE hW () rfl trivial rfl dX8_score_15
def f_X6_cheap (V : BC) (L : List Nat) (kd : Nat → Nat) (nu : Nat → Int32) (aa : Nat → Int32) (z : Nat) (x2 : Int32) : Option Int32 :=
 o_ck (gIn L kd z) (o_b1 (f_X5_score V L kd nu aa z x2) fun (r2 : Int32) =>
 some r2)
abbrev rm_X6_cheap : Room := { frames := 1, cells := 0, slots := 0, locals := 22 }
set_option maxHeartbeats 4000000 in
set_option maxRecDepth 100000 in
theorem m_X6_cheap (l : Launch) (D : va_G) (g : Nat → ClassId) (sz : Nat) (adV : Nat → Nat) (V : BC) (L : List Nat) (kd : Nat → Nat) (nu : Nat → Int32) (aa : Nat → Int32) (z : Nat) (x2 : Int32) (rO : Int32) (hf : f_X6_cheap V L kd nu aa z x2 = some rO) : bMet (S := Unit) l yX6_cheap (ws_ yX6_cheap cX6_cheap 3 (some .int)) rm_X6_cheap D g sz [.ref z, .ref (adV 0), .int x2] [vW g adV V, gW L kd nu aa] (fun _ => True) (fun _ => some (.int rO)) (fun _ => [vW g adV V, gW L kd nu aa]) := by
  refine b_met (by decide) (Nat.le_of_ble_eq_true rfl) ?_
  intro p e s m args below meth c A Q ls hx hb hml hr hlk hown hname hts hE hl hW
  revert hW; generalize s.heap = H; intro hW
  have hl : lv_has ls 3 [(0, .ref z), (1, .ref (adV 0)), (2, .int x2)] := hl
  rw [f_X6_cheap] at hf
  refine lv_aload_n hx hb dX6_cheap_0 rfl (lv_at hl 0 rfl) ?_
  refine lv_aload_n hx hb dX6_cheap_1 rfl (lv_at hl 1 rfl) ?_
  refine lv_iload_n hx hb dX6_cheap_2 rfl (lv_at hl 2 rfl) ?_
  obtain ⟨h1, hf⟩ := o_cs hf
  obtain ⟨r2, hc2, hf⟩ := o_b1s hf
  have hp2 : List.Perm [vW g adV V, gW L kd nu aa] ([vW g adV V, gW L kd nu aa] ++ []) := b_perm [0, 1] [] 2 rfl rfl rfl rfl
  refine b_call0 ⟨rfl, rfl⟩ (va_runSU (As := [.ref (adV 0), .int x2]) (rest := []) (g_at hW (gIn_1 h1).2) ⟨hx, hb, hml, hown, hts⟩ (m_X5_score l D g H.size adV V L kd nu aa z x2 r2 hc2) (va_cwSU (y := ⟨"EverybodyHasTheBook$Goer", "score", "(LEverybodyHasTheBook$Valley;I)I"⟩) 2 hts (lw_SU q543 q2030 q544 q545 q93 q546) rfl rfl rfl (by decide +kernel) ⟨Nat.le_of_ble_eq_true rfl, Nat.le_of_ble_eq_true rfl⟩) ⟨b_blind, g_recv hW 1 rfl h1, b_pre hW hp2⟩ rfl rfl hl.1 rfl (lv_room (Nat.le_of_ble_eq_true rfl)) dX6_cheap_3 ⟨Nat.le_of_ble_eq_true rfl, Nat.le_of_ble_eq_true rfl⟩) hW hp2 (fun _ _ H locs hW => ?_)
  have hW : bW D g A s H locs [vW g adV V, gW L kd nu aa] := hW
  cases hf
  exact b_iret hx hb hr hlk hE hW () rfl trivial rfl dX6_cheap_6
def fg_said (V : BC) (L : List Nat) (kd : Nat → Nat) (nu aa : Nat → Int32) (z : Nat) (i : Int32) : Option Int32 := if kd z = 1 then f_X6_said V L kd nu aa z i else if kd z = 2 then f_X6_said V L kd nu aa z i else if kd z = 4 then f_X6_said V L kd nu aa z i else if kd z = 5 then f_X6_said V L kd nu aa z i else none
set_option maxHeartbeats 4000000 in
theorem b_gv_said {p : Program} {l : Launch} {e : Env} {R : Room} {s : State} {m : MethodId} {args : Array Value} {below : List Frame} {meth : Method} {c : Code} {H : Heap} {locs : List Loc} {cells slots : Nat} {Q : State → Prop} {cc : ByteArray} {pc : Nat} {ls : Array Slot} {rest : List Value} {D : va_G} {g : Nat → ClassId} {A : Nat → Prop} {Bs wr : List va_W} {L : List Nat} {kd : Nat → Nat} {nu aa : Nat → Int32} {own : String} {index nL : Nat} {adV : Nat → Nat} {V : BC} {i : Int32} {z : Nat} {r : Int32}
    (S : CallFix p m c cc nL s args lw_all own) (hl : Cond.methodLink own index ⟨"EverybodyHasTheBook$Booked", "said", "(LEverybodyHasTheBook$Valley;I)I"⟩ ∈ lw_all) (hW : bW D g A s H locs Bs) (hp : Bs.Perm ([vW g adV V, gW L kd nu aa] ++ wr)) (pp : Nat) (hpp : Bs[pp]? = some (gW L kd nu aa)) (hz : gIn L kd z = true) (hf : fg_said V L kd nu aa z i = some r) (hR : 2 ≤ R.frames ∧ 46 ≤ R.locals) (hsz : ls.size = nL) (hrm : (rest.map fun v => v.category).sum ≤ 8) (hcs : cells ≤ R.cells ∧ slots ≤ R.slots) (hdg : decode cc pc = .ok (.invokevirtual index, 3))
    (kk : ∀ (H : Heap) (locs : List Loc), bW D g A s H locs ([vW g adV V, gW L kd nu aa] ++ wr) → W p l e R s m args below meth c H locs cells slots Q (F0 m (pc + 3) ls (.int r :: rest))) : W p l e R s m args below meth c H locs cells slots Q (F0 m pc ls (.int i :: .ref (adV 0) :: .ref z :: rest)) := by
  obtain ⟨hz1, hz2⟩ := gIn_1 hz
  have hrc := g_recv hW pp hpp hz
  have hat := g_at hW hz2
  rw [fg_said] at hf
  by_cases hk1 : kd z = 1
  · have hf := o_t hf hk1
    rw [hk1] at hrc hat
    exact b_call0 ⟨rfl, rfl⟩ (va_runU (As := [.ref (adV 0), .int i]) S (m_X6_said l D g H.size adV V L kd nu aa z i r hf) (va_cwU (x := ⟨"EverybodyHasTheBook$Booked", "said", "(LEverybodyHasTheBook$Valley;I)I"⟩) (y := ⟨"EverybodyHasTheBook$Booked", "said", "(LEverybodyHasTheBook$Valley;I)I"⟩) 2 S.2.2.2.2 (lw_U hl q554 q553 q552 q94 q558) rfl rfl rfl rfl (by decide +kernel) ⟨Nat.le_trans (Nat.le_of_ble_eq_true rfl) hR.1, Nat.le_trans (Nat.le_of_ble_eq_true rfl) hR.2⟩) ⟨b_blind, hrc, b_pre hW hp⟩ rfl rfl hsz rfl (lv_room hrm) hdg hcs) hW hp (fun _ _ H locs hW => kk H locs hW)
  have hf := o_f hf hk1
  by_cases hk2 : kd z = 2
  · have hf := o_t hf hk2
    rw [hk2] at hrc hat
    exact b_call0 ⟨rfl, rfl⟩ (va_runU (As := [.ref (adV 0), .int i]) S (m_X6_said l D g H.size adV V L kd nu aa z i r hf) (va_cwU (x := ⟨"EverybodyHasTheBook$Booked", "said", "(LEverybodyHasTheBook$Valley;I)I"⟩) (y := ⟨"EverybodyHasTheBook$Booked", "said", "(LEverybodyHasTheBook$Valley;I)I"⟩) 2 S.2.2.2.2 (lw_U hl q554 q555 q552 q94 q558) rfl rfl rfl rfl (by decide +kernel) ⟨Nat.le_trans (Nat.le_of_ble_eq_true rfl) hR.1, Nat.le_trans (Nat.le_of_ble_eq_true rfl) hR.2⟩) ⟨b_blind, hrc, b_pre hW hp⟩ rfl rfl hsz rfl (lv_room hrm) hdg hcs) hW hp (fun _ _ H locs hW => kk H locs hW)
  have hf := o_f hf hk2
  by_cases hk4 : kd z = 4
  · have hf := o_t hf hk4
    rw [hk4] at hrc hat
    exact b_call0 ⟨rfl, rfl⟩ (va_runU (As := [.ref (adV 0), .int i]) S (m_X6_said l D g H.size adV V L kd nu aa z i r hf) (va_cwU (x := ⟨"EverybodyHasTheBook$Booked", "said", "(LEverybodyHasTheBook$Valley;I)I"⟩) (y := ⟨"EverybodyHasTheBook$Booked", "said", "(LEverybodyHasTheBook$Valley;I)I"⟩) 2 S.2.2.2.2 (lw_U hl q554 q557 q552 q94 q558) rfl rfl rfl rfl (by decide +kernel) ⟨Nat.le_trans (Nat.le_of_ble_eq_true rfl) hR.1, Nat.le_trans (Nat.le_of_ble_eq_true rfl) hR.2⟩) ⟨b_blind, hrc, b_pre hW hp⟩ rfl rfl hsz rfl (lv_room hrm) hdg hcs) hW hp (fun _ _ H locs hW => kk H locs hW)
  have hf := o_f hf hk4
  by_cases hk5 : kd z = 5
  · have hf := o_t hf hk5
    rw [hk5] at hrc hat
    exact b_call0 ⟨rfl, rfl⟩ (va_runU (As := [.ref (adV 0), .int i]) S (m_X6_said l D g H.size adV V L kd nu aa z i r hf) (va_cwU (x := ⟨"EverybodyHasTheBook$Booked", "said", "(LEverybodyHasTheBook$Valley;I)I"⟩) (y := ⟨"EverybodyHasTheBook$Booked", "said", "(LEverybodyHasTheBook$Valley;I)I"⟩) 2 S.2.2.2.2 (lw_U hl q554 q556 q552 q94 q558) rfl rfl rfl rfl (by decide +kernel) ⟨Nat.le_trans (Nat.le_of_ble_eq_true rfl) hR.1, Nat.le_trans (Nat.le_of_ble_eq_true rfl) hR.2⟩) ⟨b_blind, hrc, b_pre hW hp⟩ rfl rfl hsz rfl (lv_room hrm) hdg hcs) hW hp (fun _ _ H locs hW => kk H locs hW)
  have hf := o_f hf hk5
  cases hf
def f_X6_score (V : BC) (L : List Nat) (kd : Nat → Nat) (nu : Nat → Int32) (aa : Nat → Int32) (z : Nat) (x2 : Int32) : Option Int32 :=
 o_ck (gIn L kd z) (o_b1 (fg_said V L kd nu aa z x2) fun (r2 : Int32) =>
 some r2)
abbrev rm_X6_score : Room := { frames := 2, cells := 0, slots := 0, locals := 46 }
set_option maxHeartbeats 4000000 in
set_option maxRecDepth 100000 in
theorem m_X6_score (l : Launch) (D : va_G) (g : Nat → ClassId) (sz : Nat) (adV : Nat → Nat) (V : BC) (L : List Nat) (kd : Nat → Nat) (nu : Nat → Int32) (aa : Nat → Int32) (z : Nat) (x2 : Int32) (rO : Int32) (hf : f_X6_score V L kd nu aa z x2 = some rO) : bMet (S := Unit) l yX6_score (ws_ yX6_score cX6_score 3 (some .int)) rm_X6_score D g sz [.ref z, .ref (adV 0), .int x2] [vW g adV V, gW L kd nu aa] (fun _ => True) (fun _ => some (.int rO)) (fun _ => [vW g adV V, gW L kd nu aa]) := by
  refine b_met (by decide) (Nat.le_of_ble_eq_true rfl) ?_
  intro p e s m args below meth c A Q ls hx hb hml hr hlk hown hname hts hE hl hW
  revert hW; generalize s.heap = H; intro hW
  have hl : lv_has ls 3 [(0, .ref z), (1, .ref (adV 0)), (2, .int x2)] := hl
  rw [f_X6_score] at hf
  refine lv_aload_n hx hb dX6_score_0 rfl (lv_at hl 0 rfl) ?_
  refine lv_aload_n hx hb dX6_score_1 rfl (lv_at hl 1 rfl) ?_
  refine lv_iload_n hx hb dX6_score_2 rfl (lv_at hl 2 rfl) ?_
  obtain ⟨h1, hf⟩ := o_cs hf
  obtain ⟨r2, hc2, hf⟩ := o_b1s hf
  have hp2 : List.Perm [vW g adV V, gW L kd nu aa] ([vW g adV V, gW L kd nu aa] ++ []) := b_perm [0, 1] [] 2 rfl rfl rfl rfl
  refine b_gv_said ⟨hx, hb, hml, hown, hts⟩ q551 hW hp2 1 rfl h1 hc2 ⟨Nat.le_of_ble_eq_true rfl, Nat.le_of_ble_eq_true rfl⟩ hl.1 (Nat.le_of_ble_eq_true rfl) ⟨Nat.le_of_ble_eq_true rfl, Nat.le_of_ble_eq_true rfl⟩ dX6_score_3 (fun H locs hW => ?_)
  have hW : bW D g A s H locs [vW g adV V, gW L kd nu aa] := hW
  cases hf
  exact b_iret hx hb hr hlk hE hW () rfl trivial rfl dX6_score_6
def fg_cheap (V : BC) (L : List Nat) (kd : Nat → Nat) (nu aa : Nat → Int32) (z : Nat) (i : Int32) : Option Int32 := if kd z = 2 then f_X6_cheap V L kd nu aa z i else none
set_option maxHeartbeats 4000000 in
theorem b_gv_cheap {p : Program} {l : Launch} {e : Env} {R : Room} {s : State} {m : MethodId} {args : Array Value} {below : List Frame} {meth : Method} {c : Code} {H : Heap} {locs : List Loc} {cells slots : Nat} {Q : State → Prop} {cc : ByteArray} {pc : Nat} {ls : Array Slot} {rest : List Value} {D : va_G} {g : Nat → ClassId} {A : Nat → Prop} {Bs wr : List va_W} {L : List Nat} {kd : Nat → Nat} {nu aa : Nat → Int32} {own : String} {index nL : Nat} {adV : Nat → Nat} {V : BC} {i : Int32} {z : Nat} {r : Int32}
    (S : CallFix p m c cc nL s args lw_all own) (hl : Cond.methodLink own index ⟨"EverybodyHasTheBook$Against", "cheap", "(LEverybodyHasTheBook$Valley;I)I"⟩ ∈ lw_all) (hW : bW D g A s H locs Bs) (hp : Bs.Perm ([vW g adV V, gW L kd nu aa] ++ wr)) (pp : Nat) (hpp : Bs[pp]? = some (gW L kd nu aa)) (hz : gIn L kd z = true) (hf : fg_cheap V L kd nu aa z i = some r) (hR : 2 ≤ R.frames ∧ 44 ≤ R.locals) (hsz : ls.size = nL) (hrm : (rest.map fun v => v.category).sum ≤ 8) (hcs : cells ≤ R.cells ∧ slots ≤ R.slots) (hdg : decode cc pc = .ok (.invokevirtual index, 3))
    (kk : ∀ (H : Heap) (locs : List Loc), bW D g A s H locs ([vW g adV V, gW L kd nu aa] ++ wr) → W p l e R s m args below meth c H locs cells slots Q (F0 m (pc + 3) ls (.int r :: rest))) : W p l e R s m args below meth c H locs cells slots Q (F0 m pc ls (.int i :: .ref (adV 0) :: .ref z :: rest)) := by
  obtain ⟨hz1, hz2⟩ := gIn_1 hz
  have hrc := g_recv hW pp hpp hz
  have hat := g_at hW hz2
  rw [fg_cheap] at hf
  by_cases hk2 : kd z = 2
  · have hf := o_t hf hk2
    rw [hk2] at hrc hat
    exact b_call0 ⟨rfl, rfl⟩ (va_runU (As := [.ref (adV 0), .int i]) S (m_X6_cheap l D g H.size adV V L kd nu aa z i r hf) (va_cwU (x := ⟨"EverybodyHasTheBook$Against", "cheap", "(LEverybodyHasTheBook$Valley;I)I"⟩) (y := ⟨"EverybodyHasTheBook$Booked", "cheap", "(LEverybodyHasTheBook$Valley;I)I"⟩) 2 S.2.2.2.2 (lw_U hl q538 q540 q541 q94 q542) rfl rfl rfl rfl (by decide +kernel) ⟨Nat.le_trans (Nat.le_of_ble_eq_true rfl) hR.1, Nat.le_trans (Nat.le_of_ble_eq_true rfl) hR.2⟩) ⟨b_blind, hrc, b_pre hW hp⟩ rfl rfl hsz rfl (lv_room hrm) hdg hcs) hW hp (fun _ _ H locs hW => kk H locs hW)
  have hf := o_f hf hk2
  cases hf
def f_X7_score (V : BC) (L : List Nat) (kd : Nat → Nat) (nu : Nat → Int32) (aa : Nat → Int32) (z : Nat) (x2 : Int32) : Option Int32 :=
 o_ck (inB x2 6) ((if (V.1 5 (ix x2)) = (-1) then
 o_ck (gIn L kd z) (o_b1 (fg_cheap V L kd nu aa z x2) fun (r6 : Int32) =>
 some r6)
 else
 o_ck (gIn L kd z) (o_b1 (f_X6_score V L kd nu aa z x2) fun (r4 : Int32) =>
 some (r4 - (aa z)))))
abbrev rm_X7_score : Room := { frames := 3, cells := 0, slots := 0, locals := 68 }
set_option maxHeartbeats 4000000 in
set_option maxRecDepth 100000 in
theorem m_X7_score (l : Launch) (D : va_G) (g : Nat → ClassId) (sz : Nat) (adV : Nat → Nat) (V : BC) (L : List Nat) (kd : Nat → Nat) (nu : Nat → Int32) (aa : Nat → Int32) (z : Nat) (x2 : Int32) (rO : Int32) (hf : f_X7_score V L kd nu aa z x2 = some rO) : bMet (S := Unit) l yX7_score (ws_ yX7_score cX7_score 3 (some .int)) rm_X7_score D g sz [.ref z, .ref (adV 0), .int x2] [vW g adV V, gW L kd nu aa] (fun _ => True) (fun _ => some (.int rO)) (fun _ => [vW g adV V, gW L kd nu aa]) := by
  refine b_met (by decide) (Nat.le_of_ble_eq_true rfl) ?_
  intro p e s m args below meth c A Q ls hx hb hml hr hlk hown hname hts hE hl hW
  revert hW; generalize s.heap = H; intro hW
  have hl : lv_has ls 3 [(0, .ref z), (1, .ref (adV 0)), (2, .int x2)] := hl
  rw [f_X7_score] at hf
  refine lv_aload_n hx hb dX7_score_0 rfl (lv_at hl 1 rfl) ?_
  refine b_get hx hb hts in_X1 hown hW 0 0 1 4 rfl vW_0 rfl (by decide) ⟨rfl, rfl, rfl⟩ (hts _ q142) vW_g4 dX7_score_1 ?_
  refine lv_iload_n hx hb dX7_score_4 rfl (lv_at hl 2 rfl) ?_
  obtain ⟨h1, hf⟩ := o_cs hf
  refine b_iald hx hb hW 0 5 rfl vW_5 h1 dX7_score_5 ?_
  refine lv_iconst (v := (-1)) hx hb dX7_score_6 (by decide) ?_
  refine lv_icmp_ne (tgt := 19) hx hb dX7_score_7 (by decide) (fun c2 => ?_) (fun c2 => ?_)
  · have hf := o_f hf c2
    refine lv_aload_n hx hb dX7_score_19 rfl (lv_at hl 0 rfl) ?_
    refine lv_aload_n hx hb dX7_score_20 rfl (lv_at hl 1 rfl) ?_
    refine lv_iload_n hx hb dX7_score_21 rfl (lv_at hl 2 rfl) ?_
    obtain ⟨h3, hf⟩ := o_cs hf
    obtain ⟨r4, hc4, hf⟩ := o_b1s hf
    have hp4 : List.Perm [vW g adV V, gW L kd nu aa] ([vW g adV V, gW L kd nu aa] ++ []) := b_perm [0, 1] [] 2 rfl rfl rfl rfl
    refine b_call0 ⟨rfl, rfl⟩ (va_runSU (As := [.ref (adV 0), .int x2]) (rest := []) (g_at hW (gIn_1 h3).2) ⟨hx, hb, hml, hown, hts⟩ (m_X6_score l D g H.size adV V L kd nu aa z x2 r4 hc4) (va_cwSU (y := ⟨"EverybodyHasTheBook$Booked", "score", "(LEverybodyHasTheBook$Valley;I)I"⟩) 2 hts (lw_SU q547 q2031 q548 q549 q94 q550) rfl rfl rfl (by decide +kernel) ⟨Nat.le_of_ble_eq_true rfl, Nat.le_of_ble_eq_true rfl⟩) ⟨b_blind, g_recv hW 1 rfl h3, b_pre hW hp4⟩ rfl rfl hl.1 rfl (lv_room (Nat.le_of_ble_eq_true rfl)) dX7_score_22 ⟨Nat.le_of_ble_eq_true rfl, Nat.le_of_ble_eq_true rfl⟩) hW hp4 (fun _ _ H locs hW => ?_)
    have hW : bW D g A s H locs [vW g adV V, gW L kd nu aa] := hW
    refine lv_aload_n hx hb dX7_score_25 rfl (lv_at hl 0 rfl) ?_
    refine b_getA hx hb hts hown hW 1 rfl h3 (hts _ q620) (u_same (hts _ q621)) dX7_score_26 ?_
    refine lv_isub hx hb dX7_score_29 ?_
    cases hf
    exact b_iret hx hb hr hlk hE hW () rfl trivial rfl dX7_score_30
  · have hf := o_t hf c2
    refine lv_aload_n hx hb dX7_score_10 rfl (lv_at hl 0 rfl) ?_
    refine lv_aload_n hx hb dX7_score_11 rfl (lv_at hl 1 rfl) ?_
    refine lv_iload_n hx hb dX7_score_12 rfl (lv_at hl 2 rfl) ?_
    obtain ⟨h5, hf⟩ := o_cs hf
    obtain ⟨r6, hc6, hf⟩ := o_b1s hf
    have hp6 : List.Perm [vW g adV V, gW L kd nu aa] ([vW g adV V, gW L kd nu aa] ++ []) := b_perm [0, 1] [] 2 rfl rfl rfl rfl
    refine b_gv_cheap ⟨hx, hb, hml, hown, hts⟩ q537 hW hp6 1 rfl h5 hc6 ⟨Nat.le_of_ble_eq_true rfl, Nat.le_of_ble_eq_true rfl⟩ hl.1 (Nat.le_of_ble_eq_true rfl) ⟨Nat.le_of_ble_eq_true rfl, Nat.le_of_ble_eq_true rfl⟩ dX7_score_13 (fun H locs hW => ?_)
    have hW : bW D g A s H locs [vW g adV V, gW L kd nu aa] := hW
    refine lv_goto (tgt := 30) hx hb dX7_score_16 (by decide) ?_
    cases hf
    exact b_iret hx hb hr hlk hE hW () rfl trivial rfl dX7_score_30
def f_X9_score (V : BC) (L : List Nat) (kd : Nat → Nat) (nu : Nat → Int32) (aa : Nat → Int32) (z : Nat) (x2 : Int32) : Option Int32 :=
 o_ck (inB x2 6) (o_lt (V.1 6 (ix x2)) fun (v2 : Int32) =>
 o_ck (gIn L kd z) (o_lt ((if (1 : Int32) < (aa z) then (aa z) else (1 : Int32))) fun (v4 : Int32) =>
 (if v2 < v4 then
 o_b1 (f_X6_score V L kd nu aa z x2) fun (r6 : Int32) =>
 some r6
 else
 o_ck (!decide (v2 = 0)) (some ((V.1 7 (ix x2)) / v2)))))
abbrev rm_X9_score : Room := { frames := 3, cells := 0, slots := 0, locals := 68 }
set_option maxHeartbeats 4000000 in
set_option maxRecDepth 100000 in
theorem m_X9_score (l : Launch) (D : va_G) (g : Nat → ClassId) (sz : Nat) (adV : Nat → Nat) (V : BC) (L : List Nat) (kd : Nat → Nat) (nu : Nat → Int32) (aa : Nat → Int32) (z : Nat) (x2 : Int32) (rO : Int32) (hf : f_X9_score V L kd nu aa z x2 = some rO) : bMet (S := Unit) l yX9_score (ws_ yX9_score cX9_score 4 (some .int)) rm_X9_score D g sz [.ref z, .ref (adV 0), .int x2] [vW g adV V, gW L kd nu aa] (fun _ => True) (fun _ => some (.int rO)) (fun _ => [vW g adV V, gW L kd nu aa]) := by
  refine b_met (by decide) (Nat.le_of_ble_eq_true rfl) ?_
  intro p e s m args below meth c A Q ls hx hb hml hr hlk hown hname hts hE hl hW
  revert hW; generalize s.heap = H; intro hW
  have hl : lv_has ls 4 [(0, .ref z), (1, .ref (adV 0)), (2, .int x2)] := hl
  rw [f_X9_score] at hf
  refine lv_aload_n hx hb dX9_score_0 rfl (lv_at hl 1 rfl) ?_
  refine b_get hx hb hts in_X1 hown hW 0 0 1 5 rfl vW_0 rfl (by decide) ⟨rfl, rfl, rfl⟩ (hts _ q147) vW_g5 dX9_score_1 ?_
  refine lv_iload_n hx hb dX9_score_4 rfl (lv_at hl 2 rfl) ?_
  obtain ⟨h1, hf⟩ := o_cs hf
  refine b_iald hx hb hW 0 6 rfl vW_6 h1 dX9_score_5 ?_
  obtain ⟨v2, ev2, hf⟩ := o_ls hf
  refine b_topi ev2 ?_
  refine lv_istore_n (lv' := [(3, .int v2), (0, .ref z), (1, .ref (adV 0)), (2, .int x2)]) hx hb dX9_score_6 rfl hl (by decide) rfl (fun ls hl => ?_)
  refine lv_iload_n hx hb dX9_score_7 rfl (lv_at hl 0 rfl) ?_
  refine lv_iconst (v := 1) hx hb dX9_score_8 (by decide) ?_
  refine lv_aload_n hx hb dX9_score_9 rfl (lv_at hl 1 rfl) ?_
  obtain ⟨h3, hf⟩ := o_cs hf
  refine b_getA hx hb hts hown hW 1 rfl h3 (hts _ q618) (u_same (hts _ q619)) dX9_score_10 ?_
  refine va_mmax hx hb (by rw [hml]; exact hl.1.symm) hown (hts _ q579) (hts _ q560) (hts _ q92) (hts _ q561) (Nat.le_of_ble_eq_true rfl) (Nat.le_of_ble_eq_true rfl) (Nat.le_of_ble_eq_true rfl) (Nat.le_of_ble_eq_true rfl) dX9_score_13 ?_
  obtain ⟨v4, ev4, hf⟩ := o_ls hf
  refine b_topi ev4 ?_
  refine lv_icmp_lt (tgt := 30) hx hb dX9_score_16 (by decide) (fun c5 => ?_) (fun c5 => ?_)
  · have hf := o_t hf c5
    refine lv_aload_n hx hb dX9_score_30 rfl (lv_at hl 1 rfl) ?_
    refine lv_aload_n hx hb dX9_score_31 rfl (lv_at hl 2 rfl) ?_
    refine lv_iload_n hx hb dX9_score_32 rfl (lv_at hl 3 rfl) ?_
    obtain ⟨r6, hc6, hf⟩ := o_b1s hf
    have hp6 : List.Perm [vW g adV V, gW L kd nu aa] ([vW g adV V, gW L kd nu aa] ++ []) := b_perm [0, 1] [] 2 rfl rfl rfl rfl
    refine b_call0 ⟨rfl, rfl⟩ (va_runSU (As := [.ref (adV 0), .int x2]) (rest := []) (g_at hW (gIn_1 h3).2) ⟨hx, hb, hml, hown, hts⟩ (m_X6_score l D g H.size adV V L kd nu aa z x2 r6 hc6) (va_cwSU (y := ⟨"EverybodyHasTheBook$Booked", "score", "(LEverybodyHasTheBook$Valley;I)I"⟩) 2 hts (lw_SU q580 q2031 q581 q549 q94 q550) rfl rfl rfl (by decide +kernel) ⟨Nat.le_of_ble_eq_true rfl, Nat.le_of_ble_eq_true rfl⟩) ⟨b_blind, g_recv hW 1 rfl h3, b_pre hW hp6⟩ rfl rfl hl.1 rfl (lv_room (Nat.le_of_ble_eq_true rfl)) dX9_score_33 ⟨Nat.le_of_ble_eq_true rfl, Nat.le_of_ble_eq_true rfl⟩) hW hp6 (fun _ _ H locs hW => ?_)
    have hW : bW D g A s H locs [vW g adV V, gW L kd nu aa] := hW
    cases hf
    exact b_iret hx hb hr hlk hE hW () rfl trivial rfl dX9_score_36
  · have hf := o_f hf c5
    refine lv_aload_n hx hb dX9_score_19 rfl (lv_at hl 2 rfl) ?_
    refine b_get hx hb hts in_X1 hown hW 0 0 1 6 rfl vW_0 rfl (by decide) ⟨rfl, rfl, rfl⟩ (hts _ q151) vW_g6 dX9_score_20 ?_
    refine lv_iload_n hx hb dX9_score_23 rfl (lv_at hl 3 rfl) ?_
    refine b_iald hx hb hW 0 7 rfl vW_7 h1 dX9_score_24 ?_
    refine lv_iload_n hx hb dX9_score_25 rfl (lv_at hl 0 rfl) ?_
    obtain ⟨h7, hf⟩ := o_cs hf
    refine lv_idiv hx hb dX9_score_26 (o_nz h7) ?_
    refine lv_goto (tgt := 36) hx hb dX9_score_27 (by decide) ?_
    cases hf
    exact b_iret hx hb hr hlk hE hW () rfl trivial rfl dX9_score_36
def fg_score (V : BC) (L : List Nat) (kd : Nat → Nat) (nu aa : Nat → Int32) (z : Nat) (i : Int32) : Option Int32 := if kd z = 0 then f_X5_score V L kd nu aa z i else if kd z = 1 then f_X6_score V L kd nu aa z i else if kd z = 2 then f_X7_score V L kd nu aa z i else if kd z = 3 then f_X8_score V L kd nu aa z i else if kd z = 4 then f_X9_score V L kd nu aa z i else if kd z = 5 then f_X6_score V L kd nu aa z i else none
set_option maxHeartbeats 4000000 in
theorem b_gv_score {p : Program} {l : Launch} {e : Env} {R : Room} {s : State} {m : MethodId} {args : Array Value} {below : List Frame} {meth : Method} {c : Code} {H : Heap} {locs : List Loc} {cells slots : Nat} {Q : State → Prop} {cc : ByteArray} {pc : Nat} {ls : Array Slot} {rest : List Value} {D : va_G} {g : Nat → ClassId} {A : Nat → Prop} {Bs wr : List va_W} {L : List Nat} {kd : Nat → Nat} {nu aa : Nat → Int32} {own : String} {index nL : Nat} {adV : Nat → Nat} {V : BC} {i : Int32} {z : Nat} {r : Int32}
    (S : CallFix p m c cc nL s args lw_all own) (hl : Cond.methodLink own index ⟨"EverybodyHasTheBook$Goer", "score", "(LEverybodyHasTheBook$Valley;I)I"⟩ ∈ lw_all) (hW : bW D g A s H locs Bs) (hp : Bs.Perm ([vW g adV V, gW L kd nu aa] ++ wr)) (pp : Nat) (hpp : Bs[pp]? = some (gW L kd nu aa)) (hz : gIn L kd z = true) (hf : fg_score V L kd nu aa z i = some r) (hR : 4 ≤ R.frames ∧ 91 ≤ R.locals) (hsz : ls.size = nL) (hrm : (rest.map fun v => v.category).sum ≤ 8) (hcs : cells ≤ R.cells ∧ slots ≤ R.slots) (hdg : decode cc pc = .ok (.invokevirtual index, 3))
    (kk : ∀ (H : Heap) (locs : List Loc), bW D g A s H locs ([vW g adV V, gW L kd nu aa] ++ wr) → W p l e R s m args below meth c H locs cells slots Q (F0 m (pc + 3) ls (.int r :: rest))) : W p l e R s m args below meth c H locs cells slots Q (F0 m pc ls (.int i :: .ref (adV 0) :: .ref z :: rest)) := by
  obtain ⟨hz1, hz2⟩ := gIn_1 hz
  have hrc := g_recv hW pp hpp hz
  have hat := g_at hW hz2
  rw [fg_score] at hf
  by_cases hk0 : kd z = 0
  · have hf := o_t hf hk0
    rw [hk0] at hrc hat
    exact b_call0 ⟨rfl, rfl⟩ (va_runU (As := [.ref (adV 0), .int i]) S (m_X5_score l D g H.size adV V L kd nu aa z i r hf) (va_cwU (x := ⟨"EverybodyHasTheBook$Goer", "score", "(LEverybodyHasTheBook$Valley;I)I"⟩) (y := ⟨"EverybodyHasTheBook$Goer", "score", "(LEverybodyHasTheBook$Valley;I)I"⟩) 2 S.2.2.2.2 (lw_U hl q2030 q2038 q545 q93 q546) rfl rfl rfl rfl (by decide +kernel) ⟨Nat.le_trans (Nat.le_of_ble_eq_true rfl) hR.1, Nat.le_trans (Nat.le_of_ble_eq_true rfl) hR.2⟩) ⟨b_blind, hrc, b_pre hW hp⟩ rfl rfl hsz rfl (lv_room hrm) hdg hcs) hW hp (fun _ _ H locs hW => kk H locs hW)
  have hf := o_f hf hk0
  by_cases hk1 : kd z = 1
  · have hf := o_t hf hk1
    rw [hk1] at hrc hat
    exact b_call0 ⟨rfl, rfl⟩ (va_runU (As := [.ref (adV 0), .int i]) S (m_X6_score l D g H.size adV V L kd nu aa z i r hf) (va_cwO (x := ⟨"EverybodyHasTheBook$Goer", "score", "(LEverybodyHasTheBook$Valley;I)I"⟩) (y := ⟨"EverybodyHasTheBook$Booked", "score", "(LEverybodyHasTheBook$Valley;I)I"⟩) 2 S.2.2.2.2 (lw_O hl q2030 q545 q2037 q549 q94 q550) rfl rfl rfl q546 (by decide +kernel) ⟨Nat.le_trans (Nat.le_of_ble_eq_true rfl) hR.1, Nat.le_trans (Nat.le_of_ble_eq_true rfl) hR.2⟩) ⟨b_blind, hrc, b_pre hW hp⟩ rfl rfl hsz rfl (lv_room hrm) hdg hcs) hW hp (fun _ _ H locs hW => kk H locs hW)
  have hf := o_f hf hk1
  by_cases hk2 : kd z = 2
  · have hf := o_t hf hk2
    rw [hk2] at hrc hat
    exact b_call0 ⟨rfl, rfl⟩ (va_runU (As := [.ref (adV 0), .int i]) S (m_X7_score l D g H.size adV V L kd nu aa z i r hf) (va_cwO (x := ⟨"EverybodyHasTheBook$Goer", "score", "(LEverybodyHasTheBook$Valley;I)I"⟩) (y := ⟨"EverybodyHasTheBook$Against", "score", "(LEverybodyHasTheBook$Valley;I)I"⟩) 2 S.2.2.2.2 (lw_O hl q2030 q545 q2036 q534 q95 q536) rfl rfl rfl q546 (by decide +kernel) ⟨Nat.le_trans (Nat.le_of_ble_eq_true rfl) hR.1, Nat.le_trans (Nat.le_of_ble_eq_true rfl) hR.2⟩) ⟨b_blind, hrc, b_pre hW hp⟩ rfl rfl hsz rfl (lv_room hrm) hdg hcs) hW hp (fun _ _ H locs hW => kk H locs hW)
  have hf := o_f hf hk2
  by_cases hk3 : kd z = 3
  · have hf := o_t hf hk3
    rw [hk3] at hrc hat
    exact b_call0 ⟨rfl, rfl⟩ (va_runU (As := [.ref (adV 0), .int i]) S (m_X8_score l D g H.size adV V L kd nu aa z i r hf) (va_cwO (x := ⟨"EverybodyHasTheBook$Goer", "score", "(LEverybodyHasTheBook$Valley;I)I"⟩) (y := ⟨"EverybodyHasTheBook$Own", "score", "(LEverybodyHasTheBook$Valley;I)I"⟩) 2 S.2.2.2.2 (lw_O hl q2030 q545 q2041 q585 q96 q587) rfl rfl rfl q546 (by decide +kernel) ⟨Nat.le_trans (Nat.le_of_ble_eq_true rfl) hR.1, Nat.le_trans (Nat.le_of_ble_eq_true rfl) hR.2⟩) ⟨b_blind, hrc, b_pre hW hp⟩ rfl rfl hsz rfl (lv_room hrm) hdg hcs) hW hp (fun _ _ H locs hW => kk H locs hW)
  have hf := o_f hf hk3
  by_cases hk4 : kd z = 4
  · have hf := o_t hf hk4
    rw [hk4] at hrc hat
    exact b_call0 ⟨rfl, rfl⟩ (va_runU (As := [.ref (adV 0), .int i]) S (m_X9_score l D g H.size adV V L kd nu aa z i r hf) (va_cwO (x := ⟨"EverybodyHasTheBook$Goer", "score", "(LEverybodyHasTheBook$Valley;I)I"⟩) (y := ⟨"EverybodyHasTheBook$Lettered", "score", "(LEverybodyHasTheBook$Valley;I)I"⟩) 2 S.2.2.2.2 (lw_O hl q2030 q545 q2040 q576 q97 q578) rfl rfl rfl q546 (by decide +kernel) ⟨Nat.le_trans (Nat.le_of_ble_eq_true rfl) hR.1, Nat.le_trans (Nat.le_of_ble_eq_true rfl) hR.2⟩) ⟨b_blind, hrc, b_pre hW hp⟩ rfl rfl hsz rfl (lv_room hrm) hdg hcs) hW hp (fun _ _ H locs hW => kk H locs hW)
  have hf := o_f hf hk4
  by_cases hk5 : kd z = 5
  · have hf := o_t hf hk5
    rw [hk5] at hrc hat
    exact b_call0 ⟨rfl, rfl⟩ (va_runU (As := [.ref (adV 0), .int i]) S (m_X6_score l D g H.size adV V L kd nu aa z i r hf) (va_cwO (x := ⟨"EverybodyHasTheBook$Goer", "score", "(LEverybodyHasTheBook$Valley;I)I"⟩) (y := ⟨"EverybodyHasTheBook$Booked", "score", "(LEverybodyHasTheBook$Valley;I)I"⟩) 2 S.2.2.2.2 (lw_O hl q2030 q545 q2039 q549 q94 q550) rfl rfl rfl q546 (by decide +kernel) ⟨Nat.le_trans (Nat.le_of_ble_eq_true rfl) hR.1, Nat.le_trans (Nat.le_of_ble_eq_true rfl) hR.2⟩) ⟨b_blind, hrc, b_pre hW hp⟩ rfl rfl hsz rfl (lv_room hrm) hdg hcs) hW hp (fun _ _ H locs hW => kk H locs hW)
  have hf := o_f hf hk5
  cases hf
set_option maxHeartbeats 4000000 in
theorem b_gf_score {p : Program} {l : Launch} {e : Env} {R : Room} {s : State} {m : MethodId} {args : Array Value} {below : List Frame} {meth : Method} {c : Code} {H : Heap} {locs : List Loc} {cells slots : Nat} {Q : State → Prop} {cc : ByteArray} {pc : Nat} {ls : Array Slot} {rest : List Value} {D : va_G} {g : Nat → ClassId} {A : Nat → Prop} {Bs wr : List va_W} {L : List Nat} {kd : Nat → Nat} {nu aa : Nat → Int32} {own : String} {index cnt nL : Nat} {adV : Nat → Nat} {V : BC} {i : Int32} {z : Nat} {r : Int32}
    (S : CallFix p m c cc nL s args lw_all own) (hl : Cond.methodLink own index ⟨"EverybodyHasTheBook$Scores", "score", "(LEverybodyHasTheBook$Valley;I)I"⟩ ∈ lw_all) (hW : bW D g A s H locs Bs) (hp : Bs.Perm ([vW g adV V, gW L kd nu aa] ++ wr)) (pp : Nat) (hpp : Bs[pp]? = some (gW L kd nu aa)) (hz : gIn L kd z = true) (hf : fg_score V L kd nu aa z i = some r) (hR : 4 ≤ R.frames ∧ 91 ≤ R.locals) (hsz : ls.size = nL) (hrm : (rest.map fun v => v.category).sum ≤ 8) (hcs : cells ≤ R.cells ∧ slots ≤ R.slots) (hdg : decode cc pc = .ok (.invokeinterface index cnt, 5))
    (kk : ∀ (H : Heap) (locs : List Loc), bW D g A s H locs ([vW g adV V, gW L kd nu aa] ++ wr) → W p l e R s m args below meth c H locs cells slots Q (F0 m (pc + 5) ls (.int r :: rest))) : W p l e R s m args below meth c H locs cells slots Q (F0 m pc ls (.int i :: .ref (adV 0) :: .ref z :: rest)) := by
  obtain ⟨hz1, hz2⟩ := gIn_1 hz
  have hrc := g_recv hW pp hpp hz
  have hat := g_at hW hz2
  rw [fg_score] at hf
  by_cases hk0 : kd z = 0
  · have hf := o_t hf hk0
    rw [hk0] at hrc hat
    exact b_call50 ⟨rfl, rfl⟩ (va_runF (As := [.ref (adV 0), .int i]) hat S (m_X5_score l D g H.size adV V L kd nu aa z i r hf) (va_cwF (x := ⟨"EverybodyHasTheBook$Scores", "score", "(LEverybodyHasTheBook$Valley;I)I"⟩) (y := ⟨"EverybodyHasTheBook$Goer", "score", "(LEverybodyHasTheBook$Valley;I)I"⟩) 2 S.2.2.2.2 (lw_F hl q567 q545 q93 q546) rfl rfl rfl (hW.2.2.2.2.2.2.2.2.2.2.1 _ (List.mem_of_getElem? (i := 0) rfl)) (by decide +kernel) ⟨Nat.le_trans (Nat.le_of_ble_eq_true rfl) hR.1, Nat.le_trans (Nat.le_of_ble_eq_true rfl) hR.2⟩) ⟨b_blind, hrc, b_pre hW hp⟩ rfl rfl hsz rfl (lv_room hrm) hdg hcs) hW hp (fun _ _ H locs hW => kk H locs hW)
  have hf := o_f hf hk0
  by_cases hk1 : kd z = 1
  · have hf := o_t hf hk1
    rw [hk1] at hrc hat
    exact b_call50 ⟨rfl, rfl⟩ (va_runF (As := [.ref (adV 0), .int i]) hat S (m_X6_score l D g H.size adV V L kd nu aa z i r hf) (va_cwF (x := ⟨"EverybodyHasTheBook$Scores", "score", "(LEverybodyHasTheBook$Valley;I)I"⟩) (y := ⟨"EverybodyHasTheBook$Booked", "score", "(LEverybodyHasTheBook$Valley;I)I"⟩) 2 S.2.2.2.2 (lw_F hl q563 q549 q94 q550) rfl rfl rfl (hW.2.2.2.2.2.2.2.2.2.2.1 _ (List.mem_of_getElem? (i := 1) rfl)) (by decide +kernel) ⟨Nat.le_trans (Nat.le_of_ble_eq_true rfl) hR.1, Nat.le_trans (Nat.le_of_ble_eq_true rfl) hR.2⟩) ⟨b_blind, hrc, b_pre hW hp⟩ rfl rfl hsz rfl (lv_room hrm) hdg hcs) hW hp (fun _ _ H locs hW => kk H locs hW)
  have hf := o_f hf hk1
  by_cases hk2 : kd z = 2
  · have hf := o_t hf hk2
    rw [hk2] at hrc hat
    exact b_call50 ⟨rfl, rfl⟩ (va_runF (As := [.ref (adV 0), .int i]) hat S (m_X7_score l D g H.size adV V L kd nu aa z i r hf) (va_cwF (x := ⟨"EverybodyHasTheBook$Scores", "score", "(LEverybodyHasTheBook$Valley;I)I"⟩) (y := ⟨"EverybodyHasTheBook$Against", "score", "(LEverybodyHasTheBook$Valley;I)I"⟩) 2 S.2.2.2.2 (lw_F hl q532 q534 q95 q536) rfl rfl rfl (hW.2.2.2.2.2.2.2.2.2.2.1 _ (List.mem_of_getElem? (i := 2) rfl)) (by decide +kernel) ⟨Nat.le_trans (Nat.le_of_ble_eq_true rfl) hR.1, Nat.le_trans (Nat.le_of_ble_eq_true rfl) hR.2⟩) ⟨b_blind, hrc, b_pre hW hp⟩ rfl rfl hsz rfl (lv_room hrm) hdg hcs) hW hp (fun _ _ H locs hW => kk H locs hW)
  have hf := o_f hf hk2
  by_cases hk3 : kd z = 3
  · have hf := o_t hf hk3
    rw [hk3] at hrc hat
    exact b_call50 ⟨rfl, rfl⟩ (va_runF (As := [.ref (adV 0), .int i]) hat S (m_X8_score l D g H.size adV V L kd nu aa z i r hf) (va_cwF (x := ⟨"EverybodyHasTheBook$Scores", "score", "(LEverybodyHasTheBook$Valley;I)I"⟩) (y := ⟨"EverybodyHasTheBook$Own", "score", "(LEverybodyHasTheBook$Valley;I)I"⟩) 2 S.2.2.2.2 (lw_F hl q583 q585 q96 q587) rfl rfl rfl (hW.2.2.2.2.2.2.2.2.2.2.1 _ (List.mem_of_getElem? (i := 3) rfl)) (by decide +kernel) ⟨Nat.le_trans (Nat.le_of_ble_eq_true rfl) hR.1, Nat.le_trans (Nat.le_of_ble_eq_true rfl) hR.2⟩) ⟨b_blind, hrc, b_pre hW hp⟩ rfl rfl hsz rfl (lv_room hrm) hdg hcs) hW hp (fun _ _ H locs hW => kk H locs hW)
  have hf := o_f hf hk3
  by_cases hk4 : kd z = 4
  · have hf := o_t hf hk4
    rw [hk4] at hrc hat
    exact b_call50 ⟨rfl, rfl⟩ (va_runF (As := [.ref (adV 0), .int i]) hat S (m_X9_score l D g H.size adV V L kd nu aa z i r hf) (va_cwF (x := ⟨"EverybodyHasTheBook$Scores", "score", "(LEverybodyHasTheBook$Valley;I)I"⟩) (y := ⟨"EverybodyHasTheBook$Lettered", "score", "(LEverybodyHasTheBook$Valley;I)I"⟩) 2 S.2.2.2.2 (lw_F hl q574 q576 q97 q578) rfl rfl rfl (hW.2.2.2.2.2.2.2.2.2.2.1 _ (List.mem_of_getElem? (i := 4) rfl)) (by decide +kernel) ⟨Nat.le_trans (Nat.le_of_ble_eq_true rfl) hR.1, Nat.le_trans (Nat.le_of_ble_eq_true rfl) hR.2⟩) ⟨b_blind, hrc, b_pre hW hp⟩ rfl rfl hsz rfl (lv_room hrm) hdg hcs) hW hp (fun _ _ H locs hW => kk H locs hW)
  have hf := o_f hf hk4
  by_cases hk5 : kd z = 5
  · have hf := o_t hf hk5
    rw [hk5] at hrc hat
    exact b_call50 ⟨rfl, rfl⟩ (va_runF (As := [.ref (adV 0), .int i]) hat S (m_X6_score l D g H.size adV V L kd nu aa z i r hf) (va_cwF (x := ⟨"EverybodyHasTheBook$Scores", "score", "(LEverybodyHasTheBook$Valley;I)I"⟩) (y := ⟨"EverybodyHasTheBook$Booked", "score", "(LEverybodyHasTheBook$Valley;I)I"⟩) 2 S.2.2.2.2 (lw_F hl q571 q549 q94 q550) rfl rfl rfl (hW.2.2.2.2.2.2.2.2.2.2.1 _ (List.mem_of_getElem? (i := 5) rfl)) (by decide +kernel) ⟨Nat.le_trans (Nat.le_of_ble_eq_true rfl) hR.1, Nat.le_trans (Nat.le_of_ble_eq_true rfl) hR.2⟩) ⟨b_blind, hrc, b_pre hW hp⟩ rfl rfl hsz rfl (lv_room hrm) hdg hcs) hW hp (fun _ _ H locs hW => kk H locs hW)
  have hf := o_f hf hk5
  cases hf
def f_X14_first_L8 (V : BC) (L : List Nat) (kd : Nat → Nat) (nu : Nat → Int32) (aa : Nat → Int32) (z : Nat) (x2 : Int32) (rec1 : (Int32 × Int32 × Int32) → Option Int32) : Int32 × Int32 × Int32 → Option Int32
  | (v2, v3, v4) =>
    (if (V.1 0 0) ≤ v4 then
     some v2
     else
     o_ck (gIn L kd z) (o_b1 (fg_score V L kd nu aa z v4) fun (r7 : Int32) =>
     o_b1 (f_X0_has x2 v4) fun (r8 : Int32) =>
     (if r8 = 0 then
     o_lt (v4 + 1) fun (v10 : Int32) =>
     rec1 (v2, v3, v10)
     else
     (if v2 = (-1) then
     o_lt (v4 + 1) fun (v12 : Int32) =>
     rec1 (v4, r7, v12)
     else
     (if r7 ≤ v3 then
     o_lt (v4 + 1) fun (v14 : Int32) =>
     rec1 (v2, v3, v14)
     else
     o_lt (v4 + 1) fun (v15 : Int32) =>
     rec1 (v4, r7, v15))))))
def f_X14_first (fu : Nat) (V : BC) (L : List Nat) (kd : Nat → Nat) (nu : Nat → Int32) (aa : Nat → Int32) (z : Nat) (x2 : Int32) : Option Int32 :=
 o_lp (f_X14_first_L8 V L kd nu aa z x2) fu ((-1), 0, 0)
abbrev rm_X14_first : Room := { frames := 4, cells := 0, slots := 0, locals := 91 }
set_option maxHeartbeats 4000000 in
set_option maxRecDepth 100000 in
theorem m_X14_first (l : Launch) (D : va_G) (g : Nat → ClassId) (sz : Nat) (adV : Nat → Nat) (fu : Nat) (V : BC) (L : List Nat) (kd : Nat → Nat) (nu : Nat → Int32) (aa : Nat → Int32) (z : Nat) (x2 : Int32) (rO : Int32) (hf : f_X14_first fu V L kd nu aa z x2 = some rO) : bMet (S := Unit) l yX14_first (ws_ yX14_first cX14_first 7 (some .int)) rm_X14_first D g sz [.ref z, .ref (adV 0), .int x2] [vW g adV V, gW L kd nu aa] (fun _ => True) (fun _ => some (.int rO)) (fun _ => [vW g adV V, gW L kd nu aa]) := by
  refine b_met (by decide) (Nat.le_of_ble_eq_true rfl) ?_
  intro p e s m args below meth c A Q ls hx hb hml hr hlk hown hname hts hE hl hW
  revert hW; generalize s.heap = H; intro hW
  have hl : lv_has ls 7 [(0, .ref z), (1, .ref (adV 0)), (2, .int x2)] := hl
  rw [f_X14_first] at hf
  refine lv_iconst (v := (-1)) hx hb dX14_first_0 (by decide) ?_
  refine lv_istore_n (lv' := [(3, .int (-1)), (0, .ref z), (1, .ref (adV 0)), (2, .int x2)]) hx hb dX14_first_1 rfl hl (by decide) rfl (fun ls hl => ?_)
  refine lv_iconst (v := 0) hx hb dX14_first_2 (by decide) ?_
  refine lv_istore (lv' := [(4, .int 0), (3, .int (-1)), (0, .ref z), (1, .ref (adV 0)), (2, .int x2)]) hx hb dX14_first_3 hl (by decide) rfl (fun ls hl => ?_)
  refine lv_iconst (v := 0) hx hb dX14_first_5 (by decide) ?_
  refine lv_istore (lv' := [(5, .int 0), (4, .int 0), (3, .int (-1)), (0, .ref z), (1, .ref (adV 0)), (2, .int x2)]) hx hb dX14_first_6 hl (by decide) rfl (fun ls hl => ?_)
  obtain ⟨stp1, est1, hf⟩ := o_ln hf
  have L1 : ∀ (n : Nat) (v2 : Int32) (v3 : Int32) (v4 : Int32) (H : Heap) (locs : List Loc) (ls : Array Slot), bW D g A s H locs [vW g adV V, gW L kd nu aa] → lv_has ls 7 [(5, .int v4), (4, .int v3), (3, .int v2), (0, .ref z), (1, .ref (adV 0)), (2, .int x2)] → o_lp stp1 n (v2, v3, v4) = some rO → W p l e rm_X14_first s m args below meth c H locs 0 0 Q (F0 m 8 ls []) := by
    intro n1
    induction n1 with
    | zero => intro v2 v3 v4 H locs ls hW hl hf; exact (o_lz hf).elim
    | succ n1 ih1 =>
      intro v2 v3 v4 H locs ls hW hl hf
      have hf := o_lu est1 hf
      rw [f_X14_first_L8] at hf
      refine lv_iload hx hb dX14_first_8 (lv_at hl 0 rfl) ?_
      refine lv_aload_n hx hb dX14_first_10 rfl (lv_at hl 4 rfl) ?_
      refine b_get hx hb hts in_X1 hown hW 0 0 1 12 rfl vW_0 rfl (by decide) ⟨rfl, rfl, rfl⟩ (hts _ q163) vW_g12 dX14_first_11 ?_
      refine lv_icmp_ge (tgt := 62) hx hb dX14_first_14 (by decide) (fun c5 => ?_) (fun c5 => ?_)
      · have hf := o_t hf c5
        refine lv_iload_n hx hb dX14_first_62 rfl (lv_at hl 2 rfl) ?_
        cases hf
        exact b_iret hx hb hr hlk hE hW () rfl trivial rfl dX14_first_63
      · have hf := o_f hf c5
        refine lv_aload_n hx hb dX14_first_17 rfl (lv_at hl 3 rfl) ?_
        refine lv_aload_n hx hb dX14_first_18 rfl (lv_at hl 4 rfl) ?_
        refine lv_iload hx hb dX14_first_19 (lv_at hl 0 rfl) ?_
        obtain ⟨h6, hf⟩ := o_cs hf
        obtain ⟨r7, hc7, hf⟩ := o_b1s hf
        have hp7 : List.Perm [vW g adV V, gW L kd nu aa] ([vW g adV V, gW L kd nu aa] ++ []) := b_perm [0, 1] [] 2 rfl rfl rfl rfl
        refine b_gf_score ⟨hx, hb, hml, hown, hts⟩ q528 hW hp7 1 rfl h6 hc7 ⟨Nat.le_of_ble_eq_true rfl, Nat.le_of_ble_eq_true rfl⟩ hl.1 (Nat.le_of_ble_eq_true rfl) ⟨Nat.le_of_ble_eq_true rfl, Nat.le_of_ble_eq_true rfl⟩ dX14_first_21 (fun H locs hW => ?_)
        have hW : bW D g A s H locs [vW g adV V, gW L kd nu aa] := hW
        refine lv_istore (lv' := [(6, .int r7), (5, .int v4), (4, .int v3), (3, .int v2), (0, .ref z), (1, .ref (adV 0)), (2, .int x2)]) hx hb dX14_first_26 hl (by decide) rfl (fun ls hl => ?_)
        refine lv_iload_n hx hb dX14_first_28 rfl (lv_at hl 6 rfl) ?_
        refine lv_iload hx hb dX14_first_29 (lv_at hl 1 rfl) ?_
        obtain ⟨r8, hc8, hf⟩ := o_b1s hf
        have hp8 : List.Perm [vW g adV V, gW L kd nu aa] ([] ++ [vW g adV V, gW L kd nu aa]) := b_perm [] [0, 1] 2 rfl rfl rfl rfl
        refine b_call0 ⟨rfl, rfl⟩ (va_runSN (As := [.int x2, .int v4]) (rest := []) ⟨hx, hb, hml, hown, hts⟩ (m_X0_has l D g H.size x2 v4 r8 hc8) ⟨va_cnB 2 hts (lw_meth q590) rfl rfl rfl (hW.2.2.2.2.2.1 _ (List.mem_of_getElem? (i := 2) rfl)) (hts _ q76) (by decide +kernel) ⟨Nat.le_of_ble_eq_true rfl, Nat.le_of_ble_eq_true rfl⟩, hts _ q589, trivial⟩ (b_preS hW hp8) rfl rfl hl.1 rfl (lv_room (Nat.le_of_ble_eq_true rfl)) dX14_first_31 ⟨Nat.le_of_ble_eq_true rfl, Nat.le_of_ble_eq_true rfl⟩) hW hp8 (fun _ _ H locs hW => ?_)
        have hW : bW D g A s H locs [vW g adV V, gW L kd nu aa] := hW
        refine lv_if_eq (tgt := 56) hx hb dX14_first_34 (by decide) (fun c9 => ?_) (fun c9 => ?_)
        · have hf := o_t hf c9
          obtain ⟨v10, ev10, hf⟩ := o_ls hf
          refine lv_iinc (v := v10) (lv' := [(5, .int v10), (6, .int r7), (4, .int v3), (3, .int v2), (0, .ref z), (1, .ref (adV 0)), (2, .int x2)]) hx hb dX14_first_56 hl (k := 1) rfl ev10 (by decide) rfl (fun ls hl => ?_)
          refine lv_goto (tgt := 8) hx hb dX14_first_59 (by decide) ?_
          exact ih1 _ _ _ _ _ _ hW (lv_sub hl [0, 2, 3, 4, 5, 6] rfl) hf
        · have hf := o_f hf c9
          refine lv_iload_n hx hb dX14_first_37 rfl (lv_at hl 3 rfl) ?_
          refine lv_iconst (v := (-1)) hx hb dX14_first_38 (by decide) ?_
          refine lv_icmp_eq (tgt := 49) hx hb dX14_first_39 (by decide) (fun c11 => ?_) (fun c11 => ?_)
          · have hf := o_t hf c11
            refine lv_iload hx hb dX14_first_49 (lv_at hl 1 rfl) ?_
            refine lv_istore_n (lv' := [(3, .int v4), (6, .int r7), (5, .int v4), (4, .int v3), (0, .ref z), (1, .ref (adV 0)), (2, .int x2)]) hx hb dX14_first_51 rfl hl (by decide) rfl (fun ls hl => ?_)
            refine lv_iload hx hb dX14_first_52 (lv_at hl 1 rfl) ?_
            refine lv_istore (lv' := [(4, .int r7), (3, .int v4), (6, .int r7), (5, .int v4), (0, .ref z), (1, .ref (adV 0)), (2, .int x2)]) hx hb dX14_first_54 hl (by decide) rfl (fun ls hl => ?_)
            obtain ⟨v12, ev12, hf⟩ := o_ls hf
            refine lv_iinc (v := v12) (lv' := [(5, .int v12), (4, .int r7), (3, .int v4), (6, .int r7), (0, .ref z), (1, .ref (adV 0)), (2, .int x2)]) hx hb dX14_first_56 hl (k := 3) rfl ev12 (by decide) rfl (fun ls hl => ?_)
            refine lv_goto (tgt := 8) hx hb dX14_first_59 (by decide) ?_
            exact ih1 _ _ _ _ _ _ hW (lv_sub hl [0, 1, 2, 4, 5, 6] rfl) hf
          · have hf := o_f hf c11
            refine lv_iload hx hb dX14_first_42 (lv_at hl 0 rfl) ?_
            refine lv_iload hx hb dX14_first_44 (lv_at hl 2 rfl) ?_
            refine lv_icmp_le (tgt := 56) hx hb dX14_first_46 (by decide) (fun c13 => ?_) (fun c13 => ?_)
            · have hf := o_t hf c13
              obtain ⟨v14, ev14, hf⟩ := o_ls hf
              refine lv_iinc (v := v14) (lv' := [(5, .int v14), (6, .int r7), (4, .int v3), (3, .int v2), (0, .ref z), (1, .ref (adV 0)), (2, .int x2)]) hx hb dX14_first_56 hl (k := 1) rfl ev14 (by decide) rfl (fun ls hl => ?_)
              refine lv_goto (tgt := 8) hx hb dX14_first_59 (by decide) ?_
              exact ih1 _ _ _ _ _ _ hW (lv_sub hl [0, 2, 3, 4, 5, 6] rfl) hf
            · have hf := o_f hf c13
              refine lv_iload hx hb dX14_first_49 (lv_at hl 1 rfl) ?_
              refine lv_istore_n (lv' := [(3, .int v4), (6, .int r7), (5, .int v4), (4, .int v3), (0, .ref z), (1, .ref (adV 0)), (2, .int x2)]) hx hb dX14_first_51 rfl hl (by decide) rfl (fun ls hl => ?_)
              refine lv_iload hx hb dX14_first_52 (lv_at hl 1 rfl) ?_
              refine lv_istore (lv' := [(4, .int r7), (3, .int v4), (6, .int r7), (5, .int v4), (0, .ref z), (1, .ref (adV 0)), (2, .int x2)]) hx hb dX14_first_54 hl (by decide) rfl (fun ls hl => ?_)
              obtain ⟨v15, ev15, hf⟩ := o_ls hf
              refine lv_iinc (v := v15) (lv' := [(5, .int v15), (4, .int r7), (3, .int v4), (6, .int r7), (0, .ref z), (1, .ref (adV 0)), (2, .int x2)]) hx hb dX14_first_56 hl (k := 3) rfl ev15 (by decide) rfl (fun ls hl => ?_)
              refine lv_goto (tgt := 8) hx hb dX14_first_59 (by decide) ?_
              exact ih1 _ _ _ _ _ _ hW (lv_sub hl [0, 1, 2, 4, 5, 6] rfl) hf
  exact L1 _ _ _ _ _ _ _ hW (lv_sub hl [0, 1, 2, 3, 4, 5] rfl) hf
def fg_first (fu : Nat) (V : BC) (L : List Nat) (kd : Nat → Nat) (nu aa : Nat → Int32) (z : Nat) (i : Int32) : Option Int32 := f_X14_first fu V L kd nu aa z i
set_option maxHeartbeats 4000000 in
theorem b_gv_first {p : Program} {l : Launch} {e : Env} {R : Room} {s : State} {m : MethodId} {args : Array Value} {below : List Frame} {meth : Method} {c : Code} {H : Heap} {locs : List Loc} {cells slots : Nat} {Q : State → Prop} {cc : ByteArray} {pc : Nat} {ls : Array Slot} {rest : List Value} {D : va_G} {g : Nat → ClassId} {A : Nat → Prop} {Bs wr : List va_W} {L : List Nat} {kd : Nat → Nat} {nu aa : Nat → Int32} {own : String} {index nL fu : Nat} {adV : Nat → Nat} {V : BC} {i : Int32} {z : Nat} {r : Int32}
    (S : CallFix p m c cc nL s args lw_all own) (hl : (Cond.methodLink own index ⟨"EverybodyHasTheBook$Goer", "first", "(LEverybodyHasTheBook$Valley;I)I"⟩).before args s = true) (hW : bW D g A s H locs Bs) (hp : Bs.Perm ([vW g adV V, gW L kd nu aa] ++ wr)) (pp : Nat) (hpp : Bs[pp]? = some (gW L kd nu aa)) (hz : gIn L kd z = true) (hf : fg_first fu V L kd nu aa z i = some r) (hR : 5 ≤ R.frames ∧ 117 ≤ R.locals) (hsz : ls.size = nL) (hrm : (rest.map fun v => v.category).sum ≤ 8) (hcs : cells ≤ R.cells ∧ slots ≤ R.slots) (hdg : decode cc pc = .ok (.invokevirtual index, 3))
    (kk : ∀ (H : Heap) (locs : List Loc), bW D g A s H locs ([vW g adV V, gW L kd nu aa] ++ wr) → W p l e R s m args below meth c H locs cells slots Q (F0 m (pc + 3) ls (.int r :: rest))) : W p l e R s m args below meth c H locs cells slots Q (F0 m pc ls (.int i :: .ref (adV 0) :: .ref z :: rest)) := by
  obtain ⟨hz1, hz2⟩ := gIn_1 hz
  have hrc := g_recv hW pp hpp hz
  have hX := hW.2.2.2.2.2
  have hlands : (Cond.landsInDefault (gC (kd z)) xwx xwy).before args s = true := by
    have h6 : gC (kd z) ∈ xwD := by
      rcases (show kd z = 0 ∨ kd z = 1 ∨ kd z = 2 ∨ kd z = 3 ∨ kd z = 4 ∨ kd z = 5 by omega) with q | q | q | q | q | q <;> rw [q]
      · exact List.mem_of_getElem? (i := 0) rfl
      · exact List.mem_of_getElem? (i := 1) rfl
      · exact List.mem_of_getElem? (i := 2) rfl
      · exact List.mem_of_getElem? (i := 3) rfl
      · exact List.mem_of_getElem? (i := 4) rfl
      · exact List.mem_of_getElem? (i := 5) rfl
    exact xw_lands (Vm.Alike.refl _) (hX.2.2.2.2.2.2.2.1 _ h6)
  refine b_call0 ⟨rfl, rfl⟩ (b_runD (x := ⟨"EverybodyHasTheBook$Goer", "first", "(LEverybodyHasTheBook$Valley;I)I"⟩) (y := ⟨"EverybodyHasTheBook$Scores", "first", "(LEverybodyHasTheBook$Valley;I)I"⟩) (C := gC (kd z)) (owner := "EverybodyHasTheBook$Scores") (n := 2) (As := [.ref (adV 0), .int i]) S (m_X14_first l D g H.size adV fu V L kd nu aa z i r hf)
    ⟨rfl, rfl, Nat.le_trans (Nat.le_of_ble_eq_true rfl) hR.1, Nat.le_trans (Nat.le_of_ble_eq_true rfl) hR.2, pay_in S.2.2.2.2 (lw_meth q526), List.mem_cons_self⟩ (S.2.2.2.2 _ q2043) hl (va_Nw.use rfl (hX.2.2.2.2.2.2.1 _ (List.mem_of_getElem? (i := 2) rfl))) (va_Nw.use rfl (hX.2.2.2.2.2.2.2.2.1 _ (List.mem_of_getElem? (i := 0) rfl))) (by decide) hlands (S.2.2.2.2 _ q524) (by decide +kernel) ⟨b_blind, hrc, b_pre hW hp⟩ rfl rfl hsz rfl (lv_room hrm) hdg hcs) hW hp (fun _ _ H locs hW => kk H locs hW)
