/-! BLOCKS: a world is a list of blocks, a block a list of cells; and the small words of which the methods' functions are made -/
set_option maxRecDepth 100000
abbrev CL : List vw_C := [(RX0, TX0, 7), (RX1, TX1, 17), (RX2, TX2, 1), (RX3, TX3, 34), (RX4, TX4, 7), (RX5, TX5, 2), (RX6, TX6, 2), (RX7, TX7, 2), (RX8, TX8, 2), (RX9, TX9, 2), (RX10, TX10, 2), (RX11, TX11, 7), (RX12, TX12, 7), (RX13, TX13, 6), (RJ4, TJ4, 4), (RJ13, TJ13, 4), (RJ3, TJ3, 6), (RJ6, TJ6, 6), (RJ7, TJ7, 8), (RJ8, TJ8, 6), (RJ9, TJ9, 6)]
abbrev TY (g : Nat → ClassId) : List (ClassId × FieldType) := [(g 0, .int), (g 1, .long), (g 2, .byte), (g 3, .short), (g 4, .boolean), (g 5, .object "EverybodyHasTheBook$Goer"), (g 6, .object "EverybodyHasTheBook$Sheet"), (g 7, .array .int), (g 8, .array .long)]
/-! the functions' words -/
abbrev ix (i : Int32) : Nat := i.toNatClampNeg
def inB (i : Int32) (n : Nat) : Bool := !(decide (i < 0)) && decide (ix i < n)
theorem inB_in {i : Int32} {n : Nat} (h : inB i n = true) : vp_in i n := by
  simp only [inB, Bool.and_eq_true, Bool.not_eq_true', decide_eq_false_iff_not, decide_eq_true_eq] at h
  intro q
  rcases q with q | q
  · exact h.1 q
  · exact absurd h.2 (Nat.not_lt.mpr q)
theorem inB_lt {i : Int32} {n : Nat} (h : inB i n = true) : ix i < n := by
  simp only [inB, Bool.and_eq_true, decide_eq_true_eq] at h
  exact h.2
def o_ck {α : Type} (b : Bool) (a : Option α) : Option α := match b with | true => a | false => none
def o_lt {α β : Type} (e : α) (f : α → β) : β := f e
def o_op {α β : Type} (r : Option β) (A : Option α) (B : β → Option α) : Option α := match r with | none => A | some a => B a
def o_lp {σ ρ : Type} (step : (σ → Option ρ) → σ → Option ρ) : Nat → σ → Option ρ
  | 0, _ => none
  | n + 1, s => step (o_lp step n) s
theorem o_cs {α : Type} {b : Bool} {a : Option α} {r : α} (h : o_ck b a = some r) : b = true ∧ a = some r := by
  cases b with
  | true => exact ⟨rfl, h⟩
  | false => cases h
theorem o_ls {α β : Type} {e : α} {f : α → β} {r : β} (h : o_lt e f = r) : ∃ x, e = x ∧ f x = r := ⟨e, rfl, h⟩
theorem o_bs {α β : Type} {x : Option α} {f : α → Option β} {r : β} (h : x.bind f = some r) : ∃ q, x = some q ∧ f q = some r := by
  cases x with
  | none => cases h
  | some q => exact ⟨q, rfl, h⟩
theorem o_t {α : Type} {c : Prop} [Decidable c] {a b r : α} (h : (if c then a else b) = r) (hc : c) : a = r := by rwa [if_pos hc] at h
theorem o_f {α : Type} {c : Prop} [Decidable c] {a b r : α} (h : (if c then a else b) = r) (hc : ¬ c) : b = r := by rwa [if_neg hc] at h
theorem o_lz {σ ρ : Type} {step : (σ → Option ρ) → σ → Option ρ} {s : σ} {r : ρ} (h : o_lp step 0 s = some r) : False := by cases h
theorem o_ln {σ ρ : Type} {step : (σ → Option ρ) → σ → Option ρ} {n : Nat} {s : σ} {r : Option ρ} (h : o_lp step n s = r) : ∃ stp, stp = step ∧ o_lp stp n s = r := ⟨step, rfl, h⟩
theorem o_lu {σ ρ : Type} {step stp : (σ → Option ρ) → σ → Option ρ} (e : stp = step) {n : Nat} {s : σ} {r : Option ρ} (h : o_lp stp (n + 1) s = r) : step (o_lp stp n) s = r := (congrFun (congrFun e (o_lp stp n)) s).symm.trans h
def o_b1 {α γ : Type} (x : Option α) (f : α → Option γ) : Option γ := x.bind f
def o_b2 {α β γ : Type} (x : Option (α × β)) (f : α → β → Option γ) : Option γ := x.bind fun q => f q.1 q.2
def o_b3 {α β δ γ : Type} (x : Option (α × β × δ)) (f : α → β → δ → Option γ) : Option γ := x.bind fun q => f q.1 q.2.1 q.2.2
def o_b4 {α β δ ε γ : Type} (x : Option (α × β × δ × ε)) (f : α → β → δ → ε → Option γ) : Option γ := x.bind fun q => f q.1 q.2.1 q.2.2.1 q.2.2.2
theorem o_b1s {α γ : Type} {x : Option α} {f : α → Option γ} {r : γ} (h : o_b1 x f = some r) : ∃ a, x = some a ∧ f a = some r := o_bs h
theorem o_b2s {α β γ : Type} {x : Option (α × β)} {f : α → β → Option γ} {r : γ} (h : o_b2 x f = some r) : ∃ a b, x = some (a, b) ∧ f a b = some r := by
  obtain ⟨⟨a, b⟩, h1, h2⟩ := o_bs h
  exact ⟨a, b, h1, h2⟩
theorem o_b3s {α β δ γ : Type} {x : Option (α × β × δ)} {f : α → β → δ → Option γ} {r : γ} (h : o_b3 x f = some r) : ∃ a b d, x = some (a, b, d) ∧ f a b d = some r := by
  obtain ⟨⟨a, b, d⟩, h1, h2⟩ := o_bs h
  exact ⟨a, b, d, h1, h2⟩
theorem o_b4s {α β δ ε γ : Type} {x : Option (α × β × δ × ε)} {f : α → β → δ → ε → Option γ} {r : γ} (h : o_b4 x f = some r) : ∃ a b d e, x = some (a, b, d, e) ∧ f a b d e = some r := by
  obtain ⟨⟨a, b, d, e⟩, h1, h2⟩ := o_bs h
  exact ⟨a, b, d, e, h1, h2⟩
theorem o_opn {α β : Type} {r : Option β} {A : Option α} {B : β → Option α} {x : Option α} (h : o_op r A B = x) (e : r = none) : A = x := by subst e; exact h
theorem o_ops {α β : Type} {r : Option β} {A : Option α} {B : β → Option α} {x : Option α} {a : β} (h : o_op r A B = x) (e : r = some a) : B a = x := by subst e; exact h
theorem o_nz {y : Int32} (h : (!decide (y = 0)) = true) : ¬ y = 0 := by simpa using h
/-! the contents of a block: arrays of ints (the ints of an object are array 0), references, longs -/
abbrev BC : Type := (Nat → Nat → Int32) × (Nat → Nat → Option Nat) × (Nat → Nat → Int64)
def bI (V : BC) (k : Nat) (f : Nat → Int32) : BC := (fun a => if a = k then f else V.1 a, V.2)
def bR (V : BC) (k : Nat) (f : Nat → Option Nat) : BC := (V.1, fun a => if a = k then f else V.2.1 a, V.2.2)
def bL (V : BC) (k : Nat) (f : Nat → Int64) : BC := (V.1, V.2.1, fun a => if a = k then f else V.2.2 a)
/-! worlds as lists of blocks -/
def bW (D : va_G) (g : Nat → ClassId) (A : Nat → Prop) (s : State) (H : Heap) (locs : List Loc) (Bs : List va_W) : Prop :=
  va_K D CL (TY g) s ∧ va_P D CL Bs.flatten H ∧ va_D A Bs.flatten ∧ va_S A s.heap H locs ∧ (∀ q : Nat, s.heap.size ≤ q → A q) ∧ XW g A s
def bPre (D : va_G) (g : Nat → ClassId) (sz : Nat) (Bs : List va_W) : State → Prop := fun U =>
  U.heap.size = sz ∧ va_P D CL Bs.flatten U.heap ∧ va_K D CL (TY g) U ∧ va_D (fun _ => True) Bs.flatten ∧ XW g (va_A Bs.flatten sz) U
def bPost (D : va_G) (A : Nat → Prop) (Bs : List va_W) : State → Prop := fun t => va_P D CL Bs.flatten t.heap ∧ va_D A Bs.flatten
abbrev bA (Bs : List va_W) (sz : Nat) : Nat → Prop := va_A Bs.flatten sz
def bQ {S : Type} (D : va_G) (sz : Nat) (Bs : List va_W) (ok : S → Prop) (rv : S → Option Value) (w1 : S → List va_W) : Array Value → State → Outcome → State → Prop := fun _ st oc t =>
  (∃ u : S, oc = .returned (rv u) ∧ ok u ∧ bPost D (bA Bs sz) (w1 u) t) ∧ va_F (bA Bs sz) st t
def bMet {S : Type} (l : Launch) (y : MethodName) (ws : List Cond) (rm : Room) (D : va_G) (g : Nat → ClassId) (sz : Nat) (av : List Value) (Bs : List va_W) (ok : S → Prop) (rv : S → Option Value) (w1 : S → List va_W) : Prop :=
  Met l y ws rm (va_Pc av (bPre D g sz Bs)) (bQ D sz Bs ok rv w1) rm.cells rm.slots (bA Bs sz)
theorem b_blind {D : va_G} {g : Nat → ClassId} {sz : Nat} {av : List Value} {Bs : List va_W} : FrameBlind (va_Pc av (bPre D g sz Bs)) := by
  intro a U g1 mk q
  obtain ⟨q0, q1, q2, q3, q4, q5⟩ := q
  exact ⟨q0, q1, q2, va_K.moved (u := U) (U := U.calling g1 mk a) (Vm.Alike.refl U.vm) q3, q4, XW.same (u := U) (U := U.calling g1 mk a) rfl rfl q5⟩
/-- a cell by its block and its place there; what is set there is set in the whole -/
theorem b_loc : ∀ (Bs : List va_W) (p q : Nat) (w : va_W) (x : Nat × va_E), Bs[p]? = some w → w[q]? = some x → ∃ k : Nat, Bs.flatten[k]? = some x ∧ ∀ y, Bs.flatten.set k y = (Bs.set p (w.set q y)).flatten := by
  intro Bs
  induction Bs with
  | nil => intro p q w x h; simp at h
  | cons b Bs ih =>
    intro p q w x hp hq
    cases p with
    | zero =>
      have hb : b = w := by simpa using hp
      subst hb
      have hl : q < b.length := (List.getElem?_eq_some_iff.mp hq).1
      refine ⟨q, ?_, fun y => ?_⟩
      · rw [List.flatten_cons, List.getElem?_append_left hl]; exact hq
      · rw [List.flatten_cons, List.set_append_left _ _ hl]; rfl
    | succ p =>
      obtain ⟨k, h1, h2⟩ := ih p q w x (by simpa using hp) hq
      refine ⟨b.length + k, ?_, fun y => ?_⟩
      · rw [List.flatten_cons, List.getElem?_append_right (Nat.le_add_right _ _), Nat.add_sub_cancel_left]; exact h1
      · rw [List.flatten_cons, List.set_append_right _ _ (Nat.le_add_right _ _), Nat.add_sub_cancel_left, h2]; rfl
theorem b_flat {l1 l2 : List va_W} (h : l1.Perm l2) : l1.flatten.Perm l2.flatten := by
  induction h with
  | nil => exact List.Perm.refl _
  | cons x _ ih => exact List.Perm.append_left x ih
  | swap x y l =>
    simp only [List.flatten_cons, ← List.append_assoc]
    exact List.Perm.append_right _ List.perm_append_comm
  | trans _ _ h1 h2 => exact h1.trans h2
theorem b_Pmem {D : va_G} {cl : List vw_C} {ws : va_W} {H : Heap} : va_P D cl ws H ↔ ∀ q ∈ ws, va_at D cl q H :=
  ⟨fun h q hq => by obtain ⟨k, hk⟩ := List.getElem?_of_mem hq; exact h k q hk, fun h k q hk => h q (List.mem_of_getElem? hk)⟩
theorem b_Dmem {A : Nat → Prop} {ws : va_W} : va_D A ws ↔ (ws.map (·.1)).Nodup ∧ ∀ q ∈ ws, A q.1 := by
  constructor
  · intro h
    refine ⟨?_, fun q hq => by obtain ⟨k, hk⟩ := List.getElem?_of_mem hq; exact h.2 k q hk⟩
    refine List.pairwise_iff_getElem.mpr fun i j hi hj hij e => ?_
    rw [List.getElem_map, List.getElem_map] at e
    have hi' : i < ws.length := by simpa using hi
    have hj' : j < ws.length := by simpa using hj
    have := h.1 i j ws[i] ws[j] (List.getElem?_eq_getElem hi') (List.getElem?_eq_getElem hj') e
    omega
  · intro h
    refine ⟨fun i j p q hi hj e => ?_, fun k q hk => h.2 q (List.mem_of_getElem? hk)⟩
    obtain ⟨hi1, hi2⟩ := List.getElem?_eq_some_iff.mp hi
    obtain ⟨hj1, hj2⟩ := List.getElem?_eq_some_iff.mp hj
    have hn := List.pairwise_iff_getElem.mp h.1
    rcases Nat.lt_trichotomy i j with c | c | c
    · exact absurd (by rw [List.getElem_map, List.getElem_map, hi2, hj2]; exact e) (hn i j (by simpa using hi1) (by simpa using hj1) c)
    · exact c
    · exact absurd (by rw [List.getElem_map, List.getElem_map, hi2, hj2]; exact e.symm) (hn j i (by simpa using hj1) (by simpa using hi1) c)
theorem b_Pperm {D : va_G} {cl : List vw_C} {w1 w2 : va_W} {H : Heap} (h : w1.Perm w2) (hP : va_P D cl w1 H) : va_P D cl w2 H := b_Pmem.mpr fun q hq => b_Pmem.mp hP q (h.mem_iff.mpr hq)
theorem b_Dperm {A : Nat → Prop} {w1 w2 : va_W} (h : w1.Perm w2) (hD : va_D A w1) : va_D A w2 :=
  b_Dmem.mpr ⟨(h.map _).nodup_iff.mp (b_Dmem.mp hD).1, fun q hq => (b_Dmem.mp hD).2 q (h.mem_iff.mpr hq)⟩
theorem b_Dapp {A : Nat → Prop} {w1 w2 : va_W} (h : va_D A (w1 ++ w2)) : va_D A w1 ∧ va_D A w2 ∧ ∀ p ∈ w1, ∀ q ∈ w2, p.1 ≠ q.1 := by
  obtain ⟨h1, h2⟩ := b_Dmem.mp h
  rw [List.map_append, List.nodup_append] at h1
  exact ⟨b_Dmem.mpr ⟨h1.1, fun q hq => h2 q (List.mem_append_left _ hq)⟩, b_Dmem.mpr ⟨h1.2.1, fun q hq => h2 q (List.mem_append_right _ hq)⟩, fun p hp q hq => h1.2.2 p.1 (List.mem_map_of_mem hp) q.1 (List.mem_map_of_mem hq)⟩
theorem b_Dcat {A : Nat → Prop} {w1 w2 : va_W} (h1 : va_D A w1) (h2 : va_D A w2) (h : ∀ p ∈ w1, ∀ q ∈ w2, p.1 ≠ q.1) : va_D A (w1 ++ w2) := by
  obtain ⟨a1, a2⟩ := b_Dmem.mp h1
  obtain ⟨b1, b2⟩ := b_Dmem.mp h2
  refine b_Dmem.mpr ⟨?_, fun q hq => (List.mem_append.mp hq).elim (a2 q) (b2 q)⟩
  rw [List.map_append, List.nodup_append]
  refine ⟨a1, b1, fun x hx y hy => ?_⟩
  obtain ⟨p, hp, rfl⟩ := List.mem_map.mp hx
  obtain ⟨q, hq, rfl⟩ := List.mem_map.mp hy
  exact h p hp q hq
/-- the blocks that a callee takes, and the rest, by their places -/
theorem b_perm {Bs wc wr : List va_W} (is isR : List Nat) (n : Nat) (hn : Bs.length = n) (h : (is ++ isR).isPerm (List.range n) = true) (hC : is.map (fun i => Bs[i]?) = wc.map some) (hR : isR.map (fun i => Bs[i]?) = wr.map some) : Bs.Perm (wc ++ wr) := by
  subst hn
  have h1 := ((List.isPerm_iff.mp h).map (fun i => Bs[i]?))
  rw [List.map_append, hC, hR, ← List.map_append] at h1
  have h2 : (List.range Bs.length).map (fun i => Bs[i]?) = Bs.map some := by
    apply List.ext_getElem
    · simp
    · intro i h3 h4
      simp at h3
      simp [h3]
  rw [h2] at h1
  have h3 := h1.filterMap id
  simpa [List.filterMap_map] using h3.symm
theorem b_ord {Bs wc : List va_W} (is : List Nat) (n : Nat) (hn : Bs.length = n) (h : is.isPerm (List.range n) = true) (hC : is.map (fun i => Bs[i]?) = wc.map some) : Bs.Perm wc := by
  have h1 := b_perm (wc := wc) (wr := []) is [] n hn (by rw [List.append_nil]; exact h) hC rfl
  rwa [List.append_nil] at h1
