/-! THE LAW: printed by gen/lawg.py -/
set_option maxRecDepth 100000
abbrev lwPT : Type := BC → BC → BC → Option BC → List Nat → (Nat → Nat) → (Nat → Int32) → (Nat → Int32) → List Nat → (Nat → Nat) → (Nat → Nat) → (Nat → Nat → Int32) → (Nat → Nat → Int64) → BC → Option BC → Option BC → Prop
def lwB (g : Nat → ClassId) (adX adN adT : Nat → Nat) (tY : Option ((Nat → Nat) × BC)) (adM : Nat → Nat) (tK tQ : Option ((Nat → Nat) × BC)) (X N T : BC) (L : List Nat) (kd : Nat → Nat) (nu aa : Nat → Int32) (LR : List Nat) (so rn : Nat → Nat) (ri : Nat → Nat → Int32) (rl : Nat → Nat → Int64) (M : BC) : List va_W :=
  [xW g adX (adN 0) (adT 0) (o_a tY) X, vW g adN N, vW g adT T, oV g tY, gW L kd nu aa, pW g LR so rn ri rl, mW g adM (o_a tK) (o_a tQ) M, oM g tK, oM g tQ]
/-- what the law goes on with after a case: the world again, the post, the room spent -/
def lwK (p : Program) (l : Launch) (e : Env) (s : State) (m : MethodId) (b : Nat) (below : List Frame) (meth : Method) (c : Code) (D : va_G) (g : Nat → ClassId) (A : Nat → Prop) (adX adT adM : Nat → Nat) (ls : Array Slot) (Q : State → Prop) (cells slots : Nat) (post : lwPT) : Prop :=
  ∀ (adN : Nat → Nat) (tY tK tQ : Option ((Nat → Nat) × BC)) (X N T : BC) (L : List Nat) (kd : Nat → Nat) (nu aa : Nat → Int32) (LR : List Nat) (so rn : Nat → Nat) (ri : Nat → Nat → Int32) (rl : Nat → Nat → Int64) (M : BC) (H : Heap) (locs : List Loc) (cells' slots' : Nat),
    post X N T (tY.map Prod.snd) L kd nu aa LR so rn ri rl M (tK.map Prod.snd) (tQ.map Prod.snd) → bW D g A s H locs (lwB g adX adN adT tY adM tK tQ X N T L kd nu aa LR so rn ri rl M) → cells' ≤ cells + 10000 → slots' ≤ slots + 80000 → W p l e room_1 s m #[.ref b] below meth c H locs cells' slots' Q (F0 m 1948 ls [])
/-- what stands all through the law -/
def lwC (p : Program) (l : Launch) (s : State) (m : MethodId) (b : Nat) (c : Code) (A : Nat → Prop) (ls : Array Slot) (adX adM : Nat → Nat) (len n : Nat) (xs : Nat → Int32) : Prop :=
  p.tables.exec = Jvm.exec ∧ c.code = cL_law ∧ c.maxLocals = 4 ∧ s.vm.findClass "EverybodyHasTheBookLaw" = some m.cls ∧ (∀ w ∈ lw_all, w.before #[Value.ref b] s = true) ∧ l.stackTraces = false ∧ va_X b len xs s s.heap ∧ b < s.heap.size ∧ ¬ A b ∧ n + 6 ≤ len ∧ len ≤ 384 ∧ lv_has ls 4 [(0, .ref b), (1, .ref (adX 0)), (2, .ref (adM 0)), (3, .int (nI n))]
theorem lw_nI (a b : Nat) : nI a + nI b = nI (a + b) := (Int32.ofNat_add a b).symm
theorem ix_nI {a : Nat} (h : a < 2147483648) : ix (nI a) = a := by
  show (Int32.ofNat a).toInt.toNat = a
  rw [Int32.toInt_ofNat_of_lt (by simpa using h)]
  rfl
theorem lw_in_ok {len n k : Nat} (h : n + 6 ≤ len) (h2 : len ≤ 384) (hk : k ≤ 5) : vp_in (nI (n + k)) len := by
  intro h3
  have h4 : (nI (n + k)).toInt = ((n + k : Nat) : Int) := Int32.toInt_ofNat_of_lt (by show n + k < 2 ^ 31; omega)
  rcases h3 with h3 | h3
  · have h5 := Int32.lt_iff_toInt_lt.mp h3
    rw [h4] at h5
    have h6 : (0 : Int32).toInt = 0 := rfl
    omega
  · have h5 : ix (nI (n + k)) = n + k := ix_nI (by omega)
    have h6 : len ≤ ix (nI (n + k)) := h3
    omega
section LAWB
variable {p : Program} {l : Launch} {e : Env} {s : State} {m : MethodId} {below : List Frame} {meth : Method} {c : Code} {H : Heap} {locs : List Loc} {cells slots b len n : Nat} {Q : State → Prop} {xs : Nat → Int32} {adX adM : Nat → Nat}
variable {pc : Nat} {ls : Array Slot} {st : List Value} {D : va_G} {g : Nat → ClassId} {A : Nat → Prop} {Bs : List va_W}
/-- script[i + k] -/
theorem lw_arg (C : lwC p l s m b c A ls adX adM len n xs) (hW : bW D g A s H locs Bs) (k : Nat) {K : Int32} (hK : nI k = K) (hk : k ≤ 5) (d0 : decode cL_law pc = .ok (.aload_n 0, 1)) (d1 : decode cL_law (pc + 1) = .ok (.iload_n 3, 1)) (d2 : decode cL_law (pc + 1 + 1) = .ok (.iconst k, 1)) (d3 : decode cL_law (pc + 1 + 1 + 1) = .ok (.iadd, 1)) (d4 : decode cL_law (pc + 1 + 1 + 1 + 1) = .ok (.iaload, 1))
    (kk : W p l e room_1 s m #[.ref b] below meth c H locs cells slots Q (F0 m (pc + 5) ls (.int (xs (n + k)) :: st))) : W p l e room_1 s m #[.ref b] below meth c H locs cells slots Q (F0 m pc ls st) := by
  obtain ⟨hx, hb, hml, hown, hts, hst, hX, hbl, hbA, h1, h2, hl⟩ := C
  refine lv_aload_n hx hb d0 rfl (lv_at hl 0 rfl) ?_
  refine lv_iload_n hx hb d1 rfl (lv_at hl 3 rfl) ?_
  refine lv_iconst (v := K) hx hb d2 (by rw [← hK]; rfl) ?_
  refine lv_iadd hx hb d3 ?_
  rw [← hK, lw_nI]
  refine va_sld hx hb hX hbl hbA hW.2.2.2.1 (lw_in_ok h1 h2 hk) d4 ?_
  have e5 : (nI (n + k)).toNatClampNeg = n + k := ix_nI (by omega)
  rw [e5]
  exact kk
end LAWB
theorem lw_k {α : Type} (n : Nat) (q : Option α) : o_k n q ≤ n := by cases q <;> simp [o_k]
theorem lw_cmp0 (x : Int64) : lg_cmp x x = 0 := by unfold lg_cmp; simp
