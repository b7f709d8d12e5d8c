/-! ROWS, third: arrays of arrays made, over(int[], int[]), what an array of references holds beyond its length -/
set_option maxRecDepth 100000
theorem outer_arr (c : ClassId) (N h0 : Nat) : ∀ i, Jvm.Free.Multi.outerC c N h0 i = arrV c N (fun j => if j < i then .ref (h0 + 1 + j) else .null)
  | 0 => by
    show ({ cls := c, slots := Array.replicate N .null, vm := .none } : Cell) = _
    rw [arrV_new]
    rfl
  | i + 1 => by
    show (Jvm.Free.Multi.outerC c N h0 i).setSlot i (.ref (h0 + 1 + i)) = _
    rw [outer_arr c N h0 i, arrV_store]
    congr 1
    funext j
    simp only [updV]
    by_cases h : j = i
    · subst h; rw [if_pos rfl, if_pos (Nat.lt_succ_self _)]
    · rw [if_neg h]
      by_cases h2 : j < i
      · rw [if_pos h2, if_pos (by omega)]
      · rw [if_neg h2, if_neg (by omega)]
theorem arrV_ext (c : ClassId) (N : Nat) (f f' : Nat → Value) (h : ∀ j, j < N → f j = f' j) : arrV c N f = arrV c N f' := by
  unfold arrV
  congr 2
  funext j
  exact h j.1 j.2
def cpyF (f h : Nat → Int32) (n : Nat) : Nat → Int32 := fun j => if j < n then f j else h j
theorem cpyF_0 (f h : Nat → Int32) : cpyF f h 0 = h := by funext j; simp [cpyF]
theorem cpyF_s (f h : Nat → Int32) (n : Nat) : upd (cpyF f h n) n (f n) = cpyF f h (n + 1) := by
  funext j
  simp only [upd, cpyF]
  split
  · rename_i e; subst e; simp
  · by_cases h2 : j < n
    · rw [if_pos h2, if_pos (by omega)]
    · rw [if_neg h2, if_neg (by omega)]
section RW3
variable {p : Program} {l : Launch} {e : Env} {R : Room} {s : State} {m : MethodId} {args : Array Value} {below : List Frame} {meth : Method} {c : Code} {H : Heap} {locs : List Loc} {cells slots : Nat} {Q : State → Prop}
variable {cc : ByteArray} {pc : Nat} {ls : Array Slot} {rest : List Value} {D : va_G} {g : Nat → ClassId} {A : Nat → Prop} {a : Nat} {Bs Bs' : List va_W} {w w' : va_W}
/-- an array of references may be read with other values beyond its length -/
theorem b_reset (hW : bW D g A s H locs Bs) (pp q : Nat) (hp : Bs[pp]? = some w) {cA : ClassId} {n : Nat} {f f' : Nat → Option Nat} (hq : w[q]? = some (a, .inl (cA, n, .inr (.inr (.inr (.inr f)))))) (hf : ∀ j, j < n → f j = f' j) (hs : w.set q (a, .inl (cA, n, .inr (.inr (.inr (.inr f'))))) = w') (hB : Bs.set pp w' = Bs') : bW D g A s H locs Bs' := by
  obtain ⟨k, hk, hset⟩ := b_loc Bs pp q w _ hp hq
  obtain ⟨h1, h2, h3, h4⟩ := hW
  have hat : va_at D CL (a, .inl (cA, n, .inr (.inr (.inr (.inr f'))))) H := by
    have h := h2 k _ hk
    show H[a]? = some (vp_cell _ _)
    have h' : H[a]? = some (vp_cell cA (n, .inr (.inr (.inr (.inr f))))) := h
    rw [h', vp_cell_q, vp_cell_q, arrV_ext cA n _ (fun j => va_rf (f' j)) (fun j hj => by rw [hf j hj])]
  have hP := h2.set (e := .inl (cA, n, .inr (.inr (.inr (.inr f'))))) h3 hk hat (fun _ _ => rfl)
  have hD := h3.set (e := .inl (cA, n, .inr (.inr (.inr (.inr f'))))) hk
  rw [hset, hs, hB] at hP hD
  exact ⟨h1, hP, hD, h4⟩
theorem b_multi (hx : p.tables.exec = Jvm.exec) (hb : c.code = cc) {own : String} {index : Nat} {ty : FieldType} (hown : s.vm.findClass own = some m.cls) (hclink : (Cond.classLink own index ("[" ++ (FieldType.array ty).toString)).before args s = true) (hover : (Cond.arrayOver (.array ty)).before args s = true) (harr : (Cond.arrayClass ty).before args s = true)
    (hW : bW D g A s H locs Bs) (t ti : Nat) (ht : (TY g)[t]? = some (g t, .array ty)) (hti : (TY g)[ti]? = some (g ti, ty)) (hprim : ∀ c1 c2 : ClassId, s.vm.findClass (FieldType.array ty).toString = some c1 → va_RA s c2 ty → c1 = c2)
    {n k : Int32} {N K : Nat} {a0 : vp_A} (ha : ∀ cA : ClassId, vp_cell cA a0 = arrV cA K (fun _ => defaultValue ty)) (hn : ¬ n < 0) (hk : ¬ k < 0) (hN : n.toNatClampNeg = N) (hK : k.toNatClampNeg = K) (hb1 : N * 4 ≤ 536870912) (hb2 : K * componentBytes ty ≤ 536870912) (hb3 : K ≤ 536870912) (hdf : fits ty (defaultValue ty) = true) (hdd : (defaultValue ty).isDefault = true)
    (hcells : cells + (1 + N) ≤ R.cells) (hslots : slots + (N + N * K) ≤ R.slots) (hdg : decode cc pc = .ok (.multianewarray index 2, 4))
    (kk : ∀ (z : Nat) (H : Heap), bW D g A s H locs (Bs ++ [(z, .inl (g t, N, .inr (.inr (.inr (.inr (fun j => some (z + 1 + j))))))) :: (List.range N).map (fun j => (z + 1 + j, .inl (g ti, a0)))]) → W p l e R s m args below meth c H locs (cells + 1 + N) (slots + N + N * K) Q (F0 m (pc + 4) ls (.ref z :: rest))) : W p l e R s m args below meth c H locs cells slots Q (F0 m pc ls (.int k :: .int n :: rest)) := by
  subst hN; subst hK
  intro T hT X
  obtain ⟨vm₁, cA, comp, hW1, hfA, hfC, hO, hI, X1, step⟩ := X.multianewarray2F hx hown hclink hover harr (g := F0 m pc ls (.int k :: .int n :: rest)) rfl (by rw [hb]; exact hdg) (n := n) (k := k) (rest := rest) rfl hn hk hb1 hb2 hb3 hdf hdd hcells hslots
  obtain ⟨h1, h2, h3, h4, h5, h6⟩ := hW
  have eA : cA = g t := Option.some.inj (hfA.symm.trans (show s.vm.findClass ("[" ++ (FieldType.array ty).toString) = some (g t) from (h1.2 t _ ht).2))
  have eC : comp = g ti := hprim _ _ hfC (h1.2 ti _ hti).2
  subst eA; subst eC
  obtain ⟨f1, f2, f3, f4⟩ := Jvm.Free.Multi.fill_facts (T.setVm vm₁) (g t) (g ti) n.toNatClampNeg k.toNatClampNeg (defaultValue ty) n.toNatClampNeg
  have hsz : (T.setVm vm₁).heap.size = H.size := by show T.heap.size = _; rw [hT]
  have hold : ∀ q : Nat, q < H.size → (Jvm.Free.Multi.fill (T.setVm vm₁) (g t) (g ti) n.toNatClampNeg k.toNatClampNeg (defaultValue ty) n.toNatClampNeg).heap[q]? = H[q]? := fun q hq => by
    rw [Jvm.Free.Multi.fill_old (ha := by rw [hsz]; exact hq)]
    show T.heap[q]? = _
    rw [hT]
  have hin := Jvm.Free.Multi.fill_inner (T.setVm vm₁) (g t) (g ti) n.toNatClampNeg k.toNatClampNeg (defaultValue ty) n.toNatClampNeg
  rw [hsz] at f1 f2 hin
  generalize hF : Jvm.Free.Multi.fill (T.setVm vm₁) (g t) (g ti) n.toNatClampNeg k.toNatClampNeg (defaultValue ty) n.toNatClampNeg = F at *
  have hnew : ∀ q ∈ ((H.size, .inl (g t, n.toNatClampNeg, .inr (.inr (.inr (.inr (fun j => some (H.size + 1 + j))))))) :: (List.range n.toNatClampNeg).map (fun j => (H.size + 1 + j, .inl (g ti, a0))) : va_W), va_at D CL q F.heap ∧ H.size ≤ q.1 := by
    intro q hq
    rcases List.mem_cons.mp hq with rfl | hq
    · refine ⟨?_, Nat.le_refl _⟩
      show F.heap[H.size]? = some (vp_cell _ _)
      rw [f2, outer_arr, vp_cell_q]
      congr 1
      exact arrV_ext _ _ _ _ (fun j hj => by rw [if_pos hj]; rfl)
    · obtain ⟨j, hj, rfl⟩ := List.mem_map.mp hq
      refine ⟨?_, by show H.size ≤ H.size + 1 + j; omega⟩
      show F.heap[H.size + 1 + j]? = some (vp_cell _ _)
      rw [hin j (List.mem_range.mp hj), ha, ← arrV_new]
      rfl
  have hnd : (((H.size, .inl (g t, n.toNatClampNeg, .inr (.inr (.inr (.inr (fun j => some (H.size + 1 + j))))))) :: (List.range n.toNatClampNeg).map (fun j => (H.size + 1 + j, .inl (g ti, a0))) : va_W).map (·.1)).Nodup := by
    rw [List.map_cons, List.map_map, List.nodup_cons]
    refine ⟨fun h => ?_, ?_⟩
    · obtain ⟨j, -, hj⟩ := List.mem_map.mp h
      simp at hj
      omega
    · refine List.pairwise_iff_getElem.mpr fun i j hi hj hij => ?_
      simp at hi hj ⊢
      omega
  have hTs : T.heap.size = H.size := by rw [hT]
  rw [hTs] at step
  refine (kk H.size F.heap ⟨h1, ?_, ?_, ⟨by rw [f1]; have := h4.1; omega, fun q g1 g2 => by rw [hold q (Nat.lt_of_lt_of_le g1 h4.1)]; exact h4.2.1 q g1 g2, h4.2.2⟩, h5, h6⟩ F rfl X1).elim fun t2 ht2 => ⟨t2, step t2 ht2.1, ht2.2⟩
  · rw [List.flatten_append]
    refine va_P.app (b_Pmem.mpr fun q hq => ?_) (b_Pmem.mpr fun q hq => ?_)
    · have := b_Pmem.mp h2 q hq
      exact this.kept (hold q.1 this.lt)
    · exact (hnew q (by simpa using hq)).1
  · rw [List.flatten_append]
    refine b_Dcat h3 (b_Dmem.mpr ⟨by simpa using hnd, fun q hq => h5 q.1 (Nat.le_trans h4.1 (hnew q (by simpa using hq)).2)⟩) fun x hx1 y hy e => ?_
    have a1 := (b_Pmem.mp h2 x hx1).lt
    have a2 := (hnew y (by simpa using hy)).2
    omega
end RW3
abbrev rm_X3_over : Room := { frames := 0, cells := 0, slots := 0, locals := 0 }
set_option maxHeartbeats 4000000 in
theorem m_X3_over (l : Launch) (D : va_G) (g : Nat → ClassId) (sz : Nat) (w0 w w' : va_W) (q0 q a0 a n : Nat) (f h : Nat → Int32) (hn : n < 2 ^ 31) (hq0 : w0[q0]? = some (a0, .inl (g 0, n, .inl f))) (hq : w[q]? = some (a, .inl (g 0, n, .inl h))) (hs : w.set q (a, .inl (g 0, n, .inl (cpyF f h n))) = w') : bMet (S := Unit) l yX3_over (ws_ yX3_over cX3_over 3 none) rm_X3_over D g sz [.ref a0, .ref a] [w0, w] (fun _ => True) (fun _ => none) (fun _ => [w0, w']) := by
  refine b_met (by decide) (Nat.le_of_ble_eq_true rfl) ?_
  intro p e s m args below meth c A Q ls hx hb hml hr hlk hown hname hts hE hl hW
  revert hW; generalize s.heap = H; intro hW
  have hl : lv_has ls 3 [(0, .ref a0), (1, .ref a)] := hl
  refine lv_iconst (v := 0) hx hb dX3_over_0 (by decide) ?_
  refine lv_istore_n (lv' := [(2, .int 0), (0, .ref a0), (1, .ref a)]) hx hb dX3_over_1 rfl hl (by decide) rfl (fun ls hl => ?_)
  have hlt : q < w.length := (List.getElem?_eq_some_iff.mp hq).1
  have LP : ∀ (d k : Nat) (wk : va_W) (H : Heap) (locs : List Loc) (ls : Array Slot), k + d = n → wk = w.set q (a, .inl (g 0, n, .inl (cpyF f h k))) → bW D g A s H locs [w0, wk] → lv_has ls 3 [(2, .int (nI k)), (0, .ref a0), (1, .ref a)] → W p l e rm_X3_over s m args below meth c H locs 0 0 Q (F0 m 2 ls []) := by
    intro d
    induction d with
    | zero =>
      intro k wk H locs ls hk hwk hW hl
      have hkn : k = n := by omega
      subst hkn
      refine lv_iload_n hx hb dX3_over_2 rfl (lv_at hl 0 rfl) ?_
      refine lv_aload_n hx hb dX3_over_3 rfl (lv_at hl 1 rfl) ?_
      refine b_alen hx hb hW 0 q0 0 rfl hq0 rfl (v := nI k) rfl dX3_over_4 ?_
      refine lv_icmp_ge (tgt := 20) hx hb dX3_over_5 (by decide) (fun _ => ?_) (fun hc => absurd (nI_le (Nat.le_refl _) hn) hc)
      exact b_vret hx hb hr hlk hE hW () (by rw [hwk, hs]) trivial rfl dX3_over_20
    | succ d ih =>
      intro k wk H locs ls hk hwk hW hl
      refine lv_iload_n hx hb dX3_over_2 rfl (lv_at hl 0 rfl) ?_
      refine lv_aload_n hx hb dX3_over_3 rfl (lv_at hl 1 rfl) ?_
      refine b_alen hx hb hW 0 q0 0 rfl hq0 rfl (v := nI n) rfl dX3_over_4 ?_
      refine lv_icmp_ge (tgt := 20) hx hb dX3_over_5 (by decide) (fun hc => absurd hc (nI_ge (by omega) hn)) (fun _ => ?_)
      have hix : ix (nI k) = k := nI_clamp (by omega)
      have hin : inB (nI k) n = true := by
        simp only [inB, hix, Bool.and_eq_true, Bool.not_eq_true', decide_eq_false_iff_not, decide_eq_true_eq]
        exact ⟨nI_pos (by omega), by omega⟩
      refine lv_aload_n hx hb dX3_over_8 rfl (lv_at hl 2 rfl) ?_
      refine lv_iload_n hx hb dX3_over_9 rfl (lv_at hl 0 rfl) ?_
      refine lv_aload_n hx hb dX3_over_10 rfl (lv_at hl 1 rfl) ?_
      refine lv_iload_n hx hb dX3_over_11 rfl (lv_at hl 0 rfl) ?_
      refine b_iald hx hb hW 0 q0 rfl hq0 hin dX3_over_12 ?_
      refine b_iast (w' := w.set q (a, .inl (g 0, n, .inl (cpyF f h (k + 1))))) (f := cpyF f h k) hx hb hW 1 q rfl (by rw [hwk]; exact List.getElem?_set_self hlt) (by rw [hwk, List.set_set, hix, cpyF_s]) rfl hin dX3_over_13 (fun H locs hW => ?_)
      refine lv_iinc (v := nI (k + 1)) (lv' := [(2, .int (nI (k + 1))), (0, .ref a0), (1, .ref a)]) hx hb dX3_over_14 hl (k := 0) rfl (by rw [nI_succ]; rfl) (by decide) rfl (fun ls hl => ?_)
      refine lv_goto (tgt := 2) hx hb dX3_over_17 (by decide) ?_
      exact ih (k + 1) _ H locs ls (by omega) rfl hW (lv_sub hl [0, 1, 2] rfl)
  exact LP n 0 w H [] ls (by omega) (by rw [cpyF_0]; exact (l_setself hq).symm) hW (lv_sub hl [0, 1, 2] rfl)
