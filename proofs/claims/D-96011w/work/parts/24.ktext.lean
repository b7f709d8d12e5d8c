/-! The constant texts; isWord() and what calls it: printed by gen/all.py -/
set_option maxRecDepth 100000
theorem b_eK {s : State} {H : Heap} {locs : List Loc} {D : va_G} {g : Nat → ClassId} {A : Nat → Prop} {Bs : List va_W} (hW : bW D g A s H locs Bs) : eK g A s s.heap := hW.2.2.2.2.2.2.2.2.2.2.2.2.2.2.2.2
theorem b_kR {s : State} {H : Heap} {locs : List Loc} {D : va_G} {g : Nat → ClassId} {A : Nat → Prop} {Bs : List va_W} (hW : bW D g A s H locs Bs) : ∀ q ∈ kRef, vk_R q.1 q.2.1 q.2.2.1 (g (100 + q.2.2.2)) s := hW.2.2.2.2.2.2.2.2.2.2.2.2.2.2.2.1
theorem b_kld {s : State} {H : Heap} {locs : List Loc} {D : va_G} {g : Nat → ClassId} {A : Nat → Prop} {Bs : List va_W} (hW : bW D g A s H locs Bs) {own tx : String} {idx i : Nat} (j : Nat) (h : kRef[j]? = some (own, idx, tx, i)) : vk_R own idx tx (g (100 + i)) s := b_kR hW _ (List.mem_of_getElem? h)
def o_nar (ty : FieldType) (v : Int32) : Bool := match narrow ty (.int v) with | .int w => decide (w = v) | _ => false
theorem o_narw {ty : FieldType} {v : Int32} (h : o_nar ty v = true) : narrow ty (.int v) = .int v := by
  unfold o_nar at h
  split at h
  · rename_i w e
    rw [e, of_decide_eq_true h]
  · cases h
theorem b_nret {p : Program} {l : Launch} {e : Env} {s : State} {m : MethodId} {args : Array Value} {below : List Frame} {meth : Method} {c : Code} {H : Heap} {locs : List Loc} {Q : State → Prop} {cc : ByteArray} {pc : Nat} {ls : Array Slot} {D : va_G} {g : Nat → ClassId} {A : Nat → Prop} {Bs' : List va_W} {S : Type} {rm : Room} {ok : S → Prop} {rv : S → Option Value} {w1 : S → List va_W} {B0 : List va_W} {ty : FieldType} (hx : p.tables.exec = Jvm.exec) (hb : c.code = cc) (hr : meth.sig.returnType = some ty) (hlk : meth.locks = false) (hE : bE below args s rm D A B0 ok rv w1 Q) (hW : bW D g A s H locs Bs') (u : S) (hw : Bs' = w1 u) (hok : ok u) {v : Int32} (hv : some (.int v) = rv u) (hn : o_nar ty v = true) (hdg : decode cc pc = .ok (.ireturn, 1)) : W p l e rm s m args below meth c H locs rm.cells rm.slots Q (F0 m pc ls [.int v]) := by
  have h := bE_q hE hW u hw hok hv
  rw [hE.1]
  exact W.zret hx hb hr (o_narw hn) h.1 h.2 hdg hlk
abbrev rm_J18_checkIndex : Room := { frames := 0, cells := 0, slots := 0, locals := 0 }
theorem m_J18_checkIndex (l : Launch) (D : va_G) (g : Nat → ClassId) (sz : Nat) (x n : Int32) (v : Value) (hv : v = .null ∨ ∃ t : Nat, v = .ref t) (h0 : ¬ x < 0) (h1 : x < n) : bMet (S := Unit) l yJ18_checkIndex (ws_ yJ18_checkIndex cJ18_checkIndex 3 (some .int)) rm_J18_checkIndex D g sz [.int x, .int n, v] [] (fun _ => True) (fun _ => some (.int x)) (fun _ => []) := by
  rcases hv with rfl | ⟨t, rfl⟩
  all_goals
    refine b_met (by decide) (Nat.le_of_ble_eq_true rfl) ?_
    intro p e s m args below meth c A Q ls hx hb hml hr hlk hown hname hts hE hl hW
    revert hW; generalize s.heap = H; intro hW
    refine lv_iload_n hx hb dJ18_checkIndex_0 rfl (lv_at hl 0 rfl) ?_
    refine lv_if_lt (tgt := 9) hx hb dJ18_checkIndex_1 (by decide) (fun hc => absurd hc h0) (fun _ => ?_)
    refine lv_iload_n hx hb dJ18_checkIndex_4 rfl (lv_at hl 0 rfl) ?_
    refine lv_iload_n hx hb dJ18_checkIndex_5 rfl (lv_at hl 1 rfl) ?_
    refine lv_icmp_lt (tgt := 16) hx hb dJ18_checkIndex_6 (by decide) (fun _ => ?_) (fun hc => absurd h1 hc)
    refine lv_iload_n hx hb dJ18_checkIndex_16 rfl (lv_at hl 0 rfl) ?_
    exact b_iret hx hb hr hlk hE hW () rfl trivial rfl dJ18_checkIndex_17
abbrev rm_J4_checkIndex : Room := { frames := 1, cells := 0, slots := 0, locals := 22 }
set_option maxHeartbeats 4000000 in
theorem m_J4_checkIndex (l : Launch) (D : va_G) (g : Nat → ClassId) (sz : Nat) (x n : Int32) (h0 : ¬ x < 0) (h1 : x < n) : bMet (S := Unit) l yJ4_checkIndex (ws_ yJ4_checkIndex cJ4_checkIndex 2 none) rm_J4_checkIndex D g sz [.int x, .int n] [] (fun _ => True) (fun _ => none) (fun _ => []) := by
  refine b_met (by decide) (Nat.le_of_ble_eq_true rfl) ?_
  intro p e s m args below meth c A Q ls hx hb hml hr hlk hown hname hts hE hl hW
  have hE0 := hW
  revert hW hE0; generalize hH : s.heap = H; intro hW hE0
  refine lv_iload_n hx hb dJ4_checkIndex_0 rfl (lv_at hl 0 rfl) ?_
  refine lv_iload_n hx hb dJ4_checkIndex_1 rfl (lv_at hl 1 rfl) ?_
  have hgo : ∀ v : Value, (v = .null ∨ ∃ t : Nat, v = .ref t) → v.category = 1 → va_Z "jdk/internal/util/Preconditions" "SIOOBE_FORMATTER" "Ljava/util/function/BiFunction;" v A s s.heap → W p l e rm_J4_checkIndex s m args below meth c H [] 0 0 Q (F0 m 2 ls [.int n, .int x]) := by
    intro v hv hcat hZ
    refine va_gets hx hb hZ hW.2.2.2.1 hown (hts _ q878) (fun _ h => h) dJ4_checkIndex_2 ?_
    have hp : List.Perm ([] : List va_W) ([] ++ []) := List.Perm.refl _
    refine b_call0 ⟨rfl, rfl⟩ (va_runS (As := [.int x, .int n, v]) (rest := []) ⟨hx, hb, hml, hown, hts⟩ (m_J18_checkIndex l D g H.size x n v hv h0 h1) (va_cwS 3 hts (lw_S q901 q902 q107 q903) rfl rfl rfl (by decide +kernel) ⟨Nat.le_of_ble_eq_true rfl, Nat.le_of_ble_eq_true rfl⟩) (b_preS hW hp) rfl rfl hl.1 rfl (lv_room (Nat.le_of_ble_eq_true rfl)) dJ4_checkIndex_5 ⟨Nat.le_of_ble_eq_true rfl, Nat.le_of_ble_eq_true rfl⟩) hW hp (fun _ _ H locs hW => ?_)
    refine lv_pop hx hb dJ4_checkIndex_8 rfl ?_
    exact b_vret hx hb hr hlk hE hW () rfl trivial rfl dJ4_checkIndex_9
  rcases (b_eK hW).2.2.2.2.2.1.1 with hZ | ⟨t, hZ⟩
  · exact hgo .null (Or.inl rfl) rfl hZ
  · exact hgo (.ref t) (Or.inr ⟨t, rfl⟩) rfl hZ

def f_J4_coder (i0 : Nat) : Option Int32 :=
 o_ck (o_nar .byte 0) (some 0)
abbrev rm_J4_coder : Room := { frames := 0, cells := 0, slots := 0, locals := 0 }
set_option maxHeartbeats 4000000 in
set_option maxRecDepth 100000 in
theorem m_J4_coder (l : Launch) (D : va_G) (g : Nat → ClassId) (sz : Nat)  (i0 : Nat) (rO : Int32) (hi0 : i0 < 7) (hf : f_J4_coder i0 = some rO) : bMet (S := Unit) l yJ4_coder (ws_ yJ4_coder cJ4_coder 1 (some .byte)) rm_J4_coder D g sz [.ref (g (100 + i0))] [] (fun _ => True) (fun _ => some (.int rO)) (fun _ => []) := by
  refine b_met (by decide) (Nat.le_of_ble_eq_true rfl) ?_
  intro p e s m args below meth c A Q ls hx hb hml hr hlk hown hname hts hE hl hW
  revert hW; generalize s.heap = H; intro hW
  have hl : lv_has ls 1 [(0, .ref (g (100 + i0)))] := hl
  rw [f_J4_coder] at hf
  refine va_gets hx hb (b_eK hW).2.2.1 hW.2.2.2.1 hown (hts _ q939) (fun _ h => h) dJ4_coder_0 ?_
  refine lv_if_eq (tgt := 13) hx hb dJ4_coder_3 (by decide) (fun hc => absurd hc (by decide)) (fun hc => ?_)
  refine lv_aload_n hx hb dJ4_coder_6 rfl (lv_at hl 0 rfl) ?_
  refine vk_getf hx hb ((b_eK hW).1.1 i0 hi0).2.1 hW.2.2.2.1 hown (hts _ q954) (fun _ h => h) dJ4_coder_7 ?_
  refine lv_goto (tgt := 14) hx hb dJ4_coder_10 (by decide) ?_
  obtain ⟨h1, hf⟩ := o_cs hf
  cases hf
  exact b_nret hx hb hr hlk hE hW () rfl trivial rfl h1 dJ4_coder_14
def f_J4_isLatin1 (i0 : Nat) : Option Int32 :=
 some 1
abbrev rm_J4_isLatin1 : Room := { frames := 0, cells := 0, slots := 0, locals := 0 }
set_option maxHeartbeats 4000000 in
set_option maxRecDepth 100000 in
theorem m_J4_isLatin1 (l : Launch) (D : va_G) (g : Nat → ClassId) (sz : Nat)  (i0 : Nat) (rO : Int32) (hi0 : i0 < 7) (hf : f_J4_isLatin1 i0 = some rO) : bMet (S := Unit) l yJ4_isLatin1 (ws_ yJ4_isLatin1 cJ4_isLatin1 1 (some .boolean)) rm_J4_isLatin1 D g sz [.ref (g (100 + i0))] [] (fun _ => True) (fun _ => some (.int rO)) (fun _ => []) := by
  refine b_met (by decide) (Nat.le_of_ble_eq_true rfl) ?_
  intro p e s m args below meth c A Q ls hx hb hml hr hlk hown hname hts hE hl hW
  revert hW; generalize s.heap = H; intro hW
  have hl : lv_has ls 1 [(0, .ref (g (100 + i0)))] := hl
  rw [f_J4_isLatin1] at hf
  refine va_gets hx hb (b_eK hW).2.2.1 hW.2.2.2.1 hown (hts _ q939) (fun _ h => h) dJ4_isLatin1_0 ?_
  refine lv_if_eq (tgt := 17) hx hb dJ4_isLatin1_3 (by decide) (fun hc => absurd hc (by decide)) (fun hc => ?_)
  refine lv_aload_n hx hb dJ4_isLatin1_6 rfl (lv_at hl 0 rfl) ?_
  refine vk_getf hx hb ((b_eK hW).1.1 i0 hi0).2.1 hW.2.2.2.1 hown (hts _ q954) (fun _ h => h) dJ4_isLatin1_7 ?_
  refine lv_if_ne (tgt := 17) hx hb dJ4_isLatin1_10 (by decide) (fun hc => absurd hc (by decide)) (fun hc => ?_)
  refine lv_iconst (v := 1) hx hb dJ4_isLatin1_13 (by decide) ?_
  refine lv_goto (tgt := 18) hx hb dJ4_isLatin1_14 (by decide) ?_
  cases hf
  exact b_zret hx hb hr hlk hE hW () rfl trivial rfl (by decide) dJ4_isLatin1_18
def f_J4_length (i0 : Nat) : Option Int32 :=
 o_b1 (f_J4_coder i0) fun (r1 : Int32) =>
 some ((nI (kLen.getD i0 0)) >>> (r1 &&& 31))
abbrev rm_J4_length : Room := { frames := 1, cells := 0, slots := 0, locals := 20 }
set_option maxHeartbeats 4000000 in
set_option maxRecDepth 100000 in
theorem m_J4_length (l : Launch) (D : va_G) (g : Nat → ClassId) (sz : Nat)  (i0 : Nat) (rO : Int32) (hi0 : i0 < 7) (hf : f_J4_length i0 = some rO) : bMet (S := Unit) l yJ4_length (ws_ yJ4_length cJ4_length 1 (some .int)) rm_J4_length D g sz [.ref (g (100 + i0))] [] (fun _ => True) (fun _ => some (.int rO)) (fun _ => []) := by
  refine b_met (by decide) (Nat.le_of_ble_eq_true rfl) ?_
  intro p e s m args below meth c A Q ls hx hb hml hr hlk hown hname hts hE hl hW
  revert hW; generalize s.heap = H; intro hW
  have hl : lv_has ls 1 [(0, .ref (g (100 + i0)))] := hl
  rw [f_J4_length] at hf
  refine lv_aload_n hx hb dJ4_length_0 rfl (lv_at hl 0 rfl) ?_
  refine vk_getf hx hb ((b_eK hW).1.1 i0 hi0).2.2.1 hW.2.2.2.1 hown (hts _ q953) (fun _ h => h) dJ4_length_1 ?_
  refine va_tlen hx hb ((b_eK hW).1.1 i0 hi0).2.2.2 hW.2.2.2.1 (v := nI (kLen.getD i0 0)) rfl dJ4_length_4 ?_
  refine lv_aload_n hx hb dJ4_length_5 rfl (lv_at hl 0 rfl) ?_
  obtain ⟨r1, hc1, hf⟩ := o_b1s hf
  have hp1 : List.Perm ([] : List va_W) ([] ++ []) := b_perm [] [] 0 rfl rfl rfl rfl
  refine b_call0 ⟨rfl, rfl⟩ (va_runV (As := []) (rest := [.int (nI (kLen.getD i0 0))]) ⟨hx, hb, hml, hown, hts⟩ (m_J4_coder l D g H.size i0 r1 hi0 hc1) (cwV 0 hts (lw_V q1742 q1743 q1744 q84 q1745) rfl rfl rfl (by decide +kernel) ⟨Nat.le_of_ble_eq_true rfl, Nat.le_of_ble_eq_true rfl⟩) ⟨b_blind, vk_recv (b_eK hW).1 hi0 hW.2.2.2.1, b_pre hW hp1⟩ rfl rfl hl.1 rfl (lv_room (Nat.le_of_ble_eq_true rfl)) dJ4_length_6 ⟨Nat.le_of_ble_eq_true rfl, Nat.le_of_ble_eq_true rfl⟩) hW hp1 (fun _ _ H locs hW => ?_)
  have hW : bW D g A s H locs [] := hW
  refine lv_ishr hx hb dJ4_length_9 ?_
  cases hf
  exact b_iret hx hb hr hlk hE hW () rfl trivial rfl dJ4_length_10
def f_J17_charAt (x1 : Nat) (x2 : Int32) : Option Int32 :=
 o_ck (decide (0 ≤ x2) && decide (x2 < (nI (kLen.getD x1 0)))) (o_ck (inB x2 (kLen.getD x1 0)) (o_lt (((((kByt.getD x1 []).getD (ix x2) 0) &&& 255).toUInt32 % 65536).toInt32) fun (v3 : Int32) =>
 o_ck (o_nar .char v3) (some v3)))
abbrev rm_J17_charAt : Room := { frames := 2, cells := 0, slots := 0, locals := 43 }
set_option maxHeartbeats 4000000 in
set_option maxRecDepth 100000 in
theorem m_J17_charAt (l : Launch) (D : va_G) (g : Nat → ClassId) (sz : Nat)  (x1 : Nat) (x2 : Int32) (rO : Int32) (hx1 : x1 < 7) (hf : f_J17_charAt x1 x2 = some rO) : bMet (S := Unit) l yJ17_charAt (ws_ yJ17_charAt cJ17_charAt 2 (some .char)) rm_J17_charAt D g sz [.ref (g (110 + x1)), .int x2] [] (fun _ => True) (fun _ => some (.int rO)) (fun _ => []) := by
  refine b_met (by decide) (Nat.le_of_ble_eq_true rfl) ?_
  intro p e s m args below meth c A Q ls hx hb hml hr hlk hown hname hts hE hl hW
  revert hW; generalize s.heap = H; intro hW
  have hl : lv_has ls 2 [(0, .ref (g (110 + x1))), (1, .int x2)] := hl
  rw [f_J17_charAt] at hf
  refine lv_iload_n hx hb dJ17_charAt_0 rfl (lv_at hl 1 rfl) ?_
  refine lv_aload_n hx hb dJ17_charAt_1 rfl (lv_at hl 0 rfl) ?_
  refine va_tlen hx hb ((b_eK hW).1.1 x1 hx1).2.2.2 hW.2.2.2.1 (v := nI (kLen.getD x1 0)) rfl dJ17_charAt_2 ?_
  obtain ⟨h1, hf⟩ := o_cs hf
  have hp1 : List.Perm ([] : List va_W) ([] ++ []) := List.Perm.refl _
  refine b_call0 ⟨rfl, rfl⟩ (va_runS (As := [.int x2, .int (nI (kLen.getD x1 0))]) (rest := []) ⟨hx, hb, hml, hown, hts⟩ (m_J4_checkIndex l D g H.size x2 (nI (kLen.getD x1 0)) (by simp at h1; exact Int32.not_lt.mpr h1.1) (by simp at h1; exact h1.2)) (va_cwS 2 hts (lw_S q1753 q899 q84 q900) rfl rfl rfl (by decide +kernel) ⟨Nat.le_of_ble_eq_true rfl, Nat.le_of_ble_eq_true rfl⟩) (b_preS hW hp1) rfl rfl hl.1 rfl (lv_room (Nat.le_of_ble_eq_true rfl)) dJ17_charAt_3 ⟨Nat.le_of_ble_eq_true rfl, Nat.le_of_ble_eq_true rfl⟩) hW hp1 (fun _ _ H locs hW => ?_)
  have hW : bW D g A s H locs [] := hW
  refine lv_aload_n hx hb dJ17_charAt_6 rfl (lv_at hl 0 rfl) ?_
  refine lv_iload_n hx hb dJ17_charAt_7 rfl (lv_at hl 1 rfl) ?_
  obtain ⟨h2, hf⟩ := o_cs hf
  refine va_tb hx hb ((b_eK hW).1.1 x1 hx1).2.2.2 hW.2.2.2.1 (inB_in h2) (v := .int ((kByt.getD x1 []).getD (ix x2) 0)) rfl dJ17_charAt_8 ?_
  refine lv_sipush (v := 255) hx hb dJ17_charAt_9 (by decide) ?_
  refine lv_iand hx hb dJ17_charAt_12 ?_
  refine lv_i2c hx hb dJ17_charAt_13 rfl ?_
  obtain ⟨v3, ev3, hf⟩ := o_ls hf
  refine b_topi ev3 ?_
  obtain ⟨h4, hf⟩ := o_cs hf
  cases hf
  exact b_nret hx hb hr hlk hE hW () rfl trivial rfl h4 dJ17_charAt_14
def f_J4_charAt (i0 : Nat) (x1 : Int32) : Option Int32 :=
 o_b1 (f_J4_isLatin1 i0) fun (r1 : Int32) =>
 (if r1 = 0 then
 none
 else
 o_b1 (f_J17_charAt i0 x1) fun (r3 : Int32) =>
 o_ck (o_nar .char r3) (some r3))
abbrev rm_J4_charAt : Room := { frames := 3, cells := 0, slots := 0, locals := 64 }
set_option maxHeartbeats 4000000 in
set_option maxRecDepth 100000 in
theorem m_J4_charAt (l : Launch) (D : va_G) (g : Nat → ClassId) (sz : Nat)  (i0 : Nat) (x1 : Int32) (rO : Int32) (hi0 : i0 < 7) (hf : f_J4_charAt i0 x1 = some rO) : bMet (S := Unit) l yJ4_charAt (ws_ yJ4_charAt cJ4_charAt 2 (some .char)) rm_J4_charAt D g sz [.ref (g (100 + i0)), .int x1] [] (fun _ => True) (fun _ => some (.int rO)) (fun _ => []) := by
  refine b_met (by decide) (Nat.le_of_ble_eq_true rfl) ?_
  intro p e s m args below meth c A Q ls hx hb hml hr hlk hown hname hts hE hl hW
  revert hW; generalize s.heap = H; intro hW
  have hl : lv_has ls 2 [(0, .ref (g (100 + i0))), (1, .int x1)] := hl
  rw [f_J4_charAt] at hf
  refine lv_aload_n hx hb dJ4_charAt_0 rfl (lv_at hl 0 rfl) ?_
  obtain ⟨r1, hc1, hf⟩ := o_b1s hf
  have hp1 : List.Perm ([] : List va_W) ([] ++ []) := b_perm [] [] 0 rfl rfl rfl rfl
  refine b_call0 ⟨rfl, rfl⟩ (va_runV (As := []) (rest := []) ⟨hx, hb, hml, hown, hts⟩ (m_J4_isLatin1 l D g H.size i0 r1 hi0 hc1) (cwV 0 hts (lw_V q995 q996 q997 q84 q998) rfl rfl rfl (by decide +kernel) ⟨Nat.le_of_ble_eq_true rfl, Nat.le_of_ble_eq_true rfl⟩) ⟨b_blind, vk_recv (b_eK hW).1 hi0 hW.2.2.2.1, b_pre hW hp1⟩ rfl rfl hl.1 rfl (lv_room (Nat.le_of_ble_eq_true rfl)) dJ4_charAt_1 ⟨Nat.le_of_ble_eq_true rfl, Nat.le_of_ble_eq_true rfl⟩) hW hp1 (fun _ _ H locs hW => ?_)
  have hW : bW D g A s H locs [] := hW
  refine lv_if_eq (tgt := 16) hx hb dJ4_charAt_4 (by decide) (fun c2 => ?_) (fun c2 => ?_)
  · have hf := o_t hf c2
    cases hf
  · have hf := o_f hf c2
    refine lv_aload_n hx hb dJ4_charAt_7 rfl (lv_at hl 0 rfl) ?_
    refine vk_getf hx hb ((b_eK hW).1.1 i0 hi0).2.2.1 hW.2.2.2.1 hown (hts _ q953) (fun _ h => h) dJ4_charAt_8 ?_
    refine lv_iload_n hx hb dJ4_charAt_11 rfl (lv_at hl 1 rfl) ?_
    obtain ⟨r3, hc3, hf⟩ := o_b1s hf
    have hp3 : List.Perm ([] : List va_W) ([] ++ []) := b_perm [] [] 0 rfl rfl rfl rfl
    refine b_call0 ⟨rfl, rfl⟩ (va_runS (As := [.ref (g (110 + i0)), .int x1]) (rest := []) ⟨hx, hb, hml, hown, hts⟩ (m_J17_charAt l D g H.size i0 x1 r3 hi0 hc3) (va_cwS 2 hts (lw_S q1750 q1751 q106 q1752) rfl rfl rfl (by decide +kernel) ⟨Nat.le_of_ble_eq_true rfl, Nat.le_of_ble_eq_true rfl⟩) (b_preS hW hp3) rfl rfl hl.1 rfl (lv_room (Nat.le_of_ble_eq_true rfl)) dJ4_charAt_12 ⟨Nat.le_of_ble_eq_true rfl, Nat.le_of_ble_eq_true rfl⟩) hW hp3 (fun _ _ H locs hW => ?_)
    have hW : bW D g A s H locs [] := hW
    obtain ⟨h4, hf⟩ := o_cs hf
    cases hf
    exact b_nret hx hb hr hlk hE hW () rfl trivial rfl h4 dJ4_charAt_15
def f_X3_isWord_L28 (M : BC) (x1 : Nat) (rec4 : Int32 → Option Int32) (v5 : Int32) : Option Int32 :=
 o_b1 (f_J4_length x1) fun (r6 : Int32) =>
 (if r6 ≤ v5 then
 some 1
 else
 o_ck (inB ((M.1 0 8) + v5) 250) (o_b1 (f_J4_charAt x1 v5) fun (r9 : Int32) =>
 (if (M.1 15 (ix ((M.1 0 8) + v5))) = r9 then
 o_lt (v5 + 1) fun (v11 : Int32) =>
 rec4 v11
 else
 some 0)))
def f_X3_isWord (fu : Nat) (M : BC) (x1 : Nat) : Option Int32 :=
 (if (M.1 0 7) = 1 then
 o_b1 (f_J4_length x1) fun (r2 : Int32) =>
 (if ((M.1 0 6) - (M.1 0 8)) = r2 then
 o_lp (f_X3_isWord_L28 M x1) fu 0
 else
 some 0)
 else
 some 0)
abbrev rm_X3_isWord : Room := { frames := 4, cells := 0, slots := 0, locals := 85 }
set_option maxHeartbeats 4000000 in
set_option maxRecDepth 100000 in
theorem m_X3_isWord (l : Launch) (D : va_G) (g : Nat → ClassId) (sz : Nat) (adM : Nat → Nat) (kM : Option Nat) (tM : Option Nat) (fu : Nat) (M : BC) (x1 : Nat) (rO : Int32) (hx1 : x1 < 7) (hf : f_X3_isWord fu M x1 = some rO) : bMet (S := Unit) l yX3_isWord (ws_ yX3_isWord cX3_isWord 3 (some .boolean)) rm_X3_isWord D g sz [.ref (adM 0), .ref (g (100 + x1))] [mW g adM kM tM M] (fun _ => True) (fun _ => some (.int rO)) (fun _ => [mW g adM kM tM M]) := by
  refine b_met (by decide) (Nat.le_of_ble_eq_true rfl) ?_
  intro p e s m args below meth c A Q ls hx hb hml hr hlk hown hname hts hE hl hW
  revert hW; generalize s.heap = H; intro hW
  have hl : lv_has ls 3 [(0, .ref (adM 0)), (1, .ref (g (100 + x1)))] := hl
  rw [f_X3_isWord] at hf
  refine lv_aload_n hx hb dX3_isWord_0 rfl (lv_at hl 0 rfl) ?_
  refine b_get hx hb hts in_X3 hown hW 0 0 3 19 rfl mW_0 rfl (by decide) ⟨rfl, rfl, rfl⟩ (hts _ q1478) mW_g19 dX3_isWord_1 ?_
  refine lv_iconst (v := 1) hx hb dX3_isWord_4 (by decide) ?_
  refine lv_icmp_ne (tgt := 24) hx hb dX3_isWord_5 (by decide) (fun c1 => ?_) (fun c1 => ?_)
  · have hf := o_f hf c1
    refine lv_iconst (v := 0) hx hb dX3_isWord_24 (by decide) ?_
    cases hf
    exact b_zret hx hb hr hlk hE hW () rfl trivial rfl (by decide) dX3_isWord_25
  · have hf := o_t hf c1
    refine lv_aload_n hx hb dX3_isWord_8 rfl (lv_at hl 0 rfl) ?_
    refine b_get hx hb hts in_X3 hown hW 0 0 3 18 rfl mW_0 rfl (by decide) ⟨rfl, rfl, rfl⟩ (hts _ q1477) mW_g18 dX3_isWord_9 ?_
    refine lv_aload_n hx hb dX3_isWord_12 rfl (lv_at hl 0 rfl) ?_
    refine b_get hx hb hts in_X3 hown hW 0 0 3 20 rfl mW_0 rfl (by decide) ⟨rfl, rfl, rfl⟩ (hts _ q1479) mW_g20 dX3_isWord_13 ?_
    refine lv_isub hx hb dX3_isWord_16 ?_
    refine lv_aload_n hx hb dX3_isWord_17 rfl (lv_at hl 1 rfl) ?_
    obtain ⟨r2, hc2, hf⟩ := o_b1s hf
    have hp2 : List.Perm ([mW g adM kM tM M] : List va_W) ([] ++ [mW g adM kM tM M]) := b_perm [] [0] 1 rfl rfl rfl rfl
    refine b_call0 ⟨rfl, rfl⟩ (va_runV (As := []) (rest := [.int ((M.1 0 6) - (M.1 0 8))]) ⟨hx, hb, hml, hown, hts⟩ (m_J4_length l D g H.size x1 r2 hx1 hc2) (cwV 0 hts (lw_V q1738 q1739 q1740 q84 q1741) rfl rfl rfl (by decide +kernel) ⟨Nat.le_of_ble_eq_true rfl, Nat.le_of_ble_eq_true rfl⟩) ⟨b_blind, vk_recv (b_eK hW).1 hx1 hW.2.2.2.1, b_pre hW hp2⟩ rfl rfl hl.1 rfl (lv_room (Nat.le_of_ble_eq_true rfl)) dX3_isWord_18 ⟨Nat.le_of_ble_eq_true rfl, Nat.le_of_ble_eq_true rfl⟩) hW hp2 (fun _ _ H locs hW => ?_)
    have hW : bW D g A s H locs [mW g adM kM tM M] := hW
    refine lv_icmp_eq (tgt := 26) hx hb dX3_isWord_21 (by decide) (fun c3 => ?_) (fun c3 => ?_)
    · have hf := o_t hf c3
      refine lv_iconst (v := 0) hx hb dX3_isWord_26 (by decide) ?_
      refine lv_istore_n (lv' := [(2, .int 0), (0, .ref (adM 0)), (1, .ref (g (100 + x1)))]) hx hb dX3_isWord_27 rfl hl (by decide) rfl (fun ls hl => ?_)
      obtain ⟨stp4, est4, hf⟩ := o_ln hf
      have L4 : ∀ (n : Nat) (v5 : Int32) (H : Heap) (locs : List Loc) (ls : Array Slot), bW D g A s H locs [mW g adM kM tM M] → lv_has ls 3 [(2, .int v5), (0, .ref (adM 0)), (1, .ref (g (100 + x1)))] → o_lp stp4 n v5 = some rO → W p l e rm_X3_isWord s m args below meth c H locs 0 0 Q (F0 m 28 ls []) := by
        intro n4
        induction n4 with
        | zero => intro v5 H locs ls hW hl hf; exact (o_lz hf).elim
        | succ n4 ih4 =>
          intro v5 H locs ls hW hl hf
          have hf := o_lu est4 hf
          rw [f_X3_isWord_L28] at hf
          refine lv_iload_n hx hb dX3_isWord_28 rfl (lv_at hl 0 rfl) ?_
          refine lv_aload_n hx hb dX3_isWord_29 rfl (lv_at hl 2 rfl) ?_
          obtain ⟨r6, hc6, hf⟩ := o_b1s hf
          have hp6 : List.Perm ([mW g adM kM tM M] : List va_W) ([] ++ [mW g adM kM tM M]) := b_perm [] [0] 1 rfl rfl rfl rfl
          refine b_call0 ⟨rfl, rfl⟩ (va_runV (As := []) (rest := [.int v5]) ⟨hx, hb, hml, hown, hts⟩ (m_J4_length l D g H.size x1 r6 hx1 hc6) (cwV 0 hts (lw_V q1738 q1739 q1740 q84 q1741) rfl rfl rfl (by decide +kernel) ⟨Nat.le_of_ble_eq_true rfl, Nat.le_of_ble_eq_true rfl⟩) ⟨b_blind, vk_recv (b_eK hW).1 hx1 hW.2.2.2.1, b_pre hW hp6⟩ rfl rfl hl.1 rfl (lv_room (Nat.le_of_ble_eq_true rfl)) dX3_isWord_30 ⟨Nat.le_of_ble_eq_true rfl, Nat.le_of_ble_eq_true rfl⟩) hW hp6 (fun _ _ H locs hW => ?_)
          have hW : bW D g A s H locs [mW g adM kM tM M] := hW
          refine lv_icmp_ge (tgt := 63) hx hb dX3_isWord_33 (by decide) (fun c7 => ?_) (fun c7 => ?_)
          · have hf := o_t hf c7
            refine lv_iconst (v := 1) hx hb dX3_isWord_63 (by decide) ?_
            cases hf
            exact b_zret hx hb hr hlk hE hW () rfl trivial rfl (by decide) dX3_isWord_64
          · have hf := o_f hf c7
            refine lv_aload_n hx hb dX3_isWord_36 rfl (lv_at hl 1 rfl) ?_
            refine b_get hx hb hts in_X3 hown hW 0 0 3 6 rfl mW_0 rfl (by decide) ⟨rfl, rfl, rfl⟩ (hts _ q1465) mW_g6 dX3_isWord_37 ?_
            refine lv_aload_n hx hb dX3_isWord_40 rfl (lv_at hl 1 rfl) ?_
            refine b_get hx hb hts in_X3 hown hW 0 0 3 20 rfl mW_0 rfl (by decide) ⟨rfl, rfl, rfl⟩ (hts _ q1479) mW_g20 dX3_isWord_41 ?_
            refine lv_iload_n hx hb dX3_isWord_44 rfl (lv_at hl 0 rfl) ?_
            refine lv_iadd hx hb dX3_isWord_45 ?_
            obtain ⟨h8, hf⟩ := o_cs hf
            refine b_iald hx hb hW 0 15 rfl mW_15 h8 dX3_isWord_46 ?_
            refine lv_aload_n hx hb dX3_isWord_47 rfl (lv_at hl 2 rfl) ?_
            refine lv_iload_n hx hb dX3_isWord_48 rfl (lv_at hl 0 rfl) ?_
            obtain ⟨r9, hc9, hf⟩ := o_b1s hf
            have hp9 : List.Perm ([mW g adM kM tM M] : List va_W) ([] ++ [mW g adM kM tM M]) := b_perm [] [0] 1 rfl rfl rfl rfl
            refine b_call0 ⟨rfl, rfl⟩ (va_runV (As := [.int v5]) (rest := [.int (M.1 15 (ix ((M.1 0 8) + v5)))]) ⟨hx, hb, hml, hown, hts⟩ (m_J4_charAt l D g H.size x1 v5 r9 hx1 hc9) (cwV 1 hts (lw_V q1746 q1747 q1748 q84 q1749) rfl rfl rfl (by decide +kernel) ⟨Nat.le_of_ble_eq_true rfl, Nat.le_of_ble_eq_true rfl⟩) ⟨b_blind, vk_recv (b_eK hW).1 hx1 hW.2.2.2.1, b_pre hW hp9⟩ rfl rfl hl.1 rfl (lv_room (Nat.le_of_ble_eq_true rfl)) dX3_isWord_49 ⟨Nat.le_of_ble_eq_true rfl, Nat.le_of_ble_eq_true rfl⟩) hW hp9 (fun _ _ H locs hW => ?_)
            have hW : bW D g A s H locs [mW g adM kM tM M] := hW
            refine lv_icmp_eq (tgt := 57) hx hb dX3_isWord_52 (by decide) (fun c10 => ?_) (fun c10 => ?_)
            · have hf := o_t hf c10
              obtain ⟨v11, ev11, hf⟩ := o_ls hf
              refine lv_iinc (v := v11) (lv' := [(2, .int v11), (0, .ref (adM 0)), (1, .ref (g (100 + x1)))]) hx hb dX3_isWord_57 hl (k := 0) rfl ev11 (by decide) rfl (fun ls hl => ?_)
              refine lv_goto (tgt := 28) hx hb dX3_isWord_60 (by decide) ?_
              exact ih4 _ _ _ _ hW (lv_sub hl [0, 1, 2] rfl) hf
            · have hf := o_f hf c10
              refine lv_iconst (v := 0) hx hb dX3_isWord_55 (by decide) ?_
              cases hf
              exact b_zret hx hb hr hlk hE hW () rfl trivial rfl (by decide) dX3_isWord_56
      exact L4 _ _ _ _ _ hW (lv_sub hl [0, 1, 2] rfl) hf
    · have hf := o_f hf c3
      refine lv_iconst (v := 0) hx hb dX3_isWord_24 (by decide) ?_
      cases hf
      exact b_zret hx hb hr hlk hE hW () rfl trivial rfl (by decide) dX3_isWord_25
def f_X3_innTold (fu : Nat) (M : BC) : Option (Int32 × BC) :=
 o_b2 (f_X3_tells fu M 0 100) fun (r1 : Int32) (M2 : BC) =>
 (if r1 = 0 then
 some (0, M2)
 else
 o_b2 (f_X3_number fu M2 1 1 20) fun (r4 : Int32) (M5 : BC) =>
 (if r4 = 0 then
 some (0, M5)
 else
 o_b2 (f_X3_number fu M5 2 0 99) fun (r7 : Int32) (M8 : BC) =>
 (if r7 = 0 then
 some (0, M8)
 else
 o_lt (M8.1 31 (ix 0)) fun (v10 : Int32) =>
 o_b1 (f_X3_isWord fu M8 0) fun (r11 : Int32) =>
 (if r11 = 0 then
 o_b1 (f_X3_addInn M8 v10 (M8.1 31 (ix 1)) (M8.1 31 (ix 2)) (-1)) fun (M13 : BC) =>
 some (1, M13)
 else
 o_b2 (f_X3_tells fu M8 0 100) fun (r14 : Int32) (M15 : BC) =>
 (if r14 = 0 then
 some (0, M15)
 else
 o_lt (M15.1 31 (ix 0)) fun (v17 : Int32) =>
 o_b1 (f_X3_addInn M15 v10 (M15.1 31 (ix 1)) (M15.1 31 (ix 2)) v17) fun (M18 : BC) =>
 some (1, M18))))))
abbrev rm_X3_innTold : Room := { frames := 5, cells := 0, slots := 0, locals := 107 }
set_option maxHeartbeats 4000000 in
set_option maxRecDepth 100000 in
theorem m_X3_innTold (l : Launch) (D : va_G) (g : Nat → ClassId) (sz : Nat) (adM : Nat → Nat) (kM : Option Nat) (tM : Option Nat) (fu : Nat) (M : BC) (rO : Int32) (MO : BC) (hf : f_X3_innTold fu M = some (rO, MO)) : bMet (S := Unit) l yX3_innTold (ws_ yX3_innTold cX3_innTold 3 (some .boolean)) rm_X3_innTold D g sz [.ref (adM 0)] [mW g adM kM tM M] (fun _ => True) (fun _ => some (.int rO)) (fun _ => [mW g adM kM tM MO]) := by
  refine b_met (by decide) (Nat.le_of_ble_eq_true rfl) ?_
  intro p e s m args below meth c A Q ls hx hb hml hr hlk hown hname hts hE hl hW
  revert hW; generalize s.heap = H; intro hW
  have hl : lv_has ls 3 [(0, .ref (adM 0))] := hl
  rw [f_X3_innTold] at hf
  refine lv_aload_n hx hb dX3_innTold_0 rfl (lv_at hl 0 rfl) ?_
  refine lv_iconst (v := 0) hx hb dX3_innTold_1 (by decide) ?_
  refine lv_bipush (v := 100) hx hb dX3_innTold_2 (by decide) ?_
  obtain ⟨r1, M2, hc2, hf⟩ := o_b2s hf
  have hp2 : List.Perm [mW g adM kM tM M] ([mW g adM kM tM M] ++ []) := b_perm [0] [] 1 rfl rfl rfl rfl
  refine b_call0 ⟨rfl, rfl⟩ (va_runV (As := [.int 0, .int 100]) (rest := []) ⟨hx, hb, hml, hown, hts⟩ (m_X3_tells l D g H.size adM kM tM fu M 0 100 r1 M2 hc2) (cwV 2 hts (lw_V q1761 q1763 qs52 q79 q1764) rfl rfl rfl (by decide +kernel) ⟨Nat.le_of_ble_eq_true rfl, Nat.le_of_ble_eq_true rfl⟩) (b_preV (pp := 0) (q := 0) hW hp2 rfl mW_0 rfl) rfl rfl hl.1 rfl (lv_room (Nat.le_of_ble_eq_true rfl)) dX3_innTold_4 ⟨Nat.le_of_ble_eq_true rfl, Nat.le_of_ble_eq_true rfl⟩) hW hp2 (fun _ _ H locs hW => ?_)
  have hW : bW D g A s H locs [mW g adM kM tM M2] := hW
  refine lv_if_eq (tgt := 32) hx hb dX3_innTold_7 (by decide) (fun c3 => ?_) (fun c3 => ?_)
  · have hf := o_t hf c3
    refine lv_iconst (v := 0) hx hb dX3_innTold_32 (by decide) ?_
    cases hf
    exact b_zret hx hb hr hlk hE hW () rfl trivial rfl (by decide) dX3_innTold_33
  · have hf := o_f hf c3
    refine lv_aload_n hx hb dX3_innTold_10 rfl (lv_at hl 0 rfl) ?_
    refine lv_iconst (v := 1) hx hb dX3_innTold_11 (by decide) ?_
    refine lv_iconst (v := 1) hx hb dX3_innTold_12 (by decide) ?_
    refine lv_bipush (v := 20) hx hb dX3_innTold_13 (by decide) ?_
    obtain ⟨r4, M5, hc5, hf⟩ := o_b2s hf
    have hp5 : List.Perm [mW g adM kM tM M2] ([mW g adM kM tM M2] ++ []) := b_perm [0] [] 1 rfl rfl rfl rfl
    refine b_call0 ⟨rfl, rfl⟩ (va_runV (As := [.int 1, .int 1, .int 20]) (rest := []) ⟨hx, hb, hml, hown, hts⟩ (m_X3_number l D g H.size adM kM tM fu M2 1 1 20 r4 M5 hc5) (cwV 3 hts (lw_V q1765 q1767 qs53 q79 q1768) rfl rfl rfl (by decide +kernel) ⟨Nat.le_of_ble_eq_true rfl, Nat.le_of_ble_eq_true rfl⟩) (b_preV (pp := 0) (q := 0) hW hp5 rfl mW_0 rfl) rfl rfl hl.1 rfl (lv_room (Nat.le_of_ble_eq_true rfl)) dX3_innTold_15 ⟨Nat.le_of_ble_eq_true rfl, Nat.le_of_ble_eq_true rfl⟩) hW hp5 (fun _ _ H locs hW => ?_)
    have hW : bW D g A s H locs [mW g adM kM tM M5] := hW
    refine lv_if_eq (tgt := 32) hx hb dX3_innTold_18 (by decide) (fun c6 => ?_) (fun c6 => ?_)
    · have hf := o_t hf c6
      refine lv_iconst (v := 0) hx hb dX3_innTold_32 (by decide) ?_
      cases hf
      exact b_zret hx hb hr hlk hE hW () rfl trivial rfl (by decide) dX3_innTold_33
    · have hf := o_f hf c6
      refine lv_aload_n hx hb dX3_innTold_21 rfl (lv_at hl 0 rfl) ?_
      refine lv_iconst (v := 2) hx hb dX3_innTold_22 (by decide) ?_
      refine lv_iconst (v := 0) hx hb dX3_innTold_23 (by decide) ?_
      refine lv_bipush (v := 99) hx hb dX3_innTold_24 (by decide) ?_
      obtain ⟨r7, M8, hc8, hf⟩ := o_b2s hf
      have hp8 : List.Perm [mW g adM kM tM M5] ([mW g adM kM tM M5] ++ []) := b_perm [0] [] 1 rfl rfl rfl rfl
      refine b_call0 ⟨rfl, rfl⟩ (va_runV (As := [.int 2, .int 0, .int 99]) (rest := []) ⟨hx, hb, hml, hown, hts⟩ (m_X3_number l D g H.size adM kM tM fu M5 2 0 99 r7 M8 hc8) (cwV 3 hts (lw_V q1765 q1767 qs53 q79 q1768) rfl rfl rfl (by decide +kernel) ⟨Nat.le_of_ble_eq_true rfl, Nat.le_of_ble_eq_true rfl⟩) (b_preV (pp := 0) (q := 0) hW hp8 rfl mW_0 rfl) rfl rfl hl.1 rfl (lv_room (Nat.le_of_ble_eq_true rfl)) dX3_innTold_26 ⟨Nat.le_of_ble_eq_true rfl, Nat.le_of_ble_eq_true rfl⟩) hW hp8 (fun _ _ H locs hW => ?_)
      have hW : bW D g A s H locs [mW g adM kM tM M8] := hW
      refine lv_if_ne (tgt := 34) hx hb dX3_innTold_29 (by decide) (fun c9 => ?_) (fun c9 => ?_)
      · have hf := o_f hf c9
        refine lv_aload_n hx hb dX3_innTold_34 rfl (lv_at hl 0 rfl) ?_
        refine b_get hx hb hts in_X3 hown hW 0 0 3 23 rfl mW_0 rfl (by decide) ⟨rfl, rfl, rfl⟩ (hts _ q1482) mW_g23 dX3_innTold_35 ?_
        refine lv_iconst (v := 0) hx hb dX3_innTold_38 (by decide) ?_
        refine b_iald hx hb hW 0 31 rfl mW_31 (by decide) dX3_innTold_39 ?_
        obtain ⟨v10, ev10, hf⟩ := o_ls hf
        refine b_topi ev10 ?_
        refine lv_istore_n (lv' := [(1, .int v10), (0, .ref (adM 0))]) hx hb dX3_innTold_40 rfl hl (by decide) rfl (fun ls hl => ?_)
        refine lv_iconst (v := (-1)) hx hb dX3_innTold_41 (by decide) ?_
        refine lv_istore_n (lv' := [(2, .int (-1)), (1, .int v10), (0, .ref (adM 0))]) hx hb dX3_innTold_42 rfl hl (by decide) rfl (fun ls hl => ?_)
        refine lv_aload_n hx hb dX3_innTold_43 rfl (lv_at hl 2 rfl) ?_
        refine va_ldcS hx hb hown (b_kld hW (own := "EverybodyHasTheBookModel") (idx := 196) (tx := "said") (i := 0) 8 rfl) dX3_innTold_44 ?_
        obtain ⟨r11, hc11, hf⟩ := o_b1s hf
        have hp11 : List.Perm ([mW g adM kM tM M8] : List va_W) ([mW g adM kM tM M8] ++ []) := b_perm [0] [] 1 rfl rfl rfl rfl
        refine b_call0 ⟨rfl, rfl⟩ (va_runV (As := [.ref (g (100 + 0))]) (rest := []) ⟨hx, hb, hml, hown, hts⟩ (m_X3_isWord l D g H.size adM kM tM fu M8 0 r11 (by decide) hc11) (cwV 1 hts (lw_V q1734 q1736 qs50 q79 q1737) rfl rfl rfl (by decide +kernel) ⟨Nat.le_of_ble_eq_true rfl, Nat.le_of_ble_eq_true rfl⟩) (b_preV (pp := 0) (q := 0) hW hp11 rfl mW_0 rfl) rfl rfl hl.1 rfl (lv_room (Nat.le_of_ble_eq_true rfl)) dX3_innTold_46 ⟨Nat.le_of_ble_eq_true rfl, Nat.le_of_ble_eq_true rfl⟩) hW hp11 (fun _ _ H locs hW => ?_)
        have hW : bW D g A s H locs [mW g adM kM tM M8] := hW
        refine lv_if_eq (tgt := 71) hx hb dX3_innTold_49 (by decide) (fun c12 => ?_) (fun c12 => ?_)
        · have hf := o_t hf c12
          refine lv_aload_n hx hb dX3_innTold_71 rfl (lv_at hl 2 rfl) ?_
          refine lv_iload_n hx hb dX3_innTold_72 rfl (lv_at hl 1 rfl) ?_
          refine lv_aload_n hx hb dX3_innTold_73 rfl (lv_at hl 2 rfl) ?_
          refine b_get hx hb hts in_X3 hown hW 0 0 3 23 rfl mW_0 rfl (by decide) ⟨rfl, rfl, rfl⟩ (hts _ q1482) mW_g23 dX3_innTold_74 ?_
          refine lv_iconst (v := 1) hx hb dX3_innTold_77 (by decide) ?_
          refine b_iald hx hb hW 0 31 rfl mW_31 (by decide) dX3_innTold_78 ?_
          refine lv_aload_n hx hb dX3_innTold_79 rfl (lv_at hl 2 rfl) ?_
          refine b_get hx hb hts in_X3 hown hW 0 0 3 23 rfl mW_0 rfl (by decide) ⟨rfl, rfl, rfl⟩ (hts _ q1482) mW_g23 dX3_innTold_80 ?_
          refine lv_iconst (v := 2) hx hb dX3_innTold_83 (by decide) ?_
          refine b_iald hx hb hW 0 31 rfl mW_31 (by decide) dX3_innTold_84 ?_
          refine lv_iload_n hx hb dX3_innTold_85 rfl (lv_at hl 0 rfl) ?_
          obtain ⟨M13, hc13, hf⟩ := o_b1s hf
          have hp13 : List.Perm [mW g adM kM tM M8] ([mW g adM kM tM M8] ++ []) := b_perm [0] [] 1 rfl rfl rfl rfl
          refine b_call0 ⟨rfl, rfl⟩ (va_runV (As := [.int v10, .int (M8.1 31 (ix 1)), .int (M8.1 31 (ix 2)), .int (-1)]) (rest := []) ⟨hx, hb, hml, hown, hts⟩ (m_X3_addInn l D g H.size adM kM tM M8 v10 (M8.1 31 (ix 1)) (M8.1 31 (ix 2)) (-1) M13 hc13) (cwV 4 hts (lw_V q1638 q1640 qs40 q79 q1641) rfl rfl rfl (by decide +kernel) ⟨Nat.le_of_ble_eq_true rfl, Nat.le_of_ble_eq_true rfl⟩) (b_preV (pp := 0) (q := 0) hW hp13 rfl mW_0 rfl) rfl rfl hl.1 rfl (lv_room (Nat.le_of_ble_eq_true rfl)) dX3_innTold_86 ⟨Nat.le_of_ble_eq_true rfl, Nat.le_of_ble_eq_true rfl⟩) hW hp13 (fun _ _ H locs hW => ?_)
          have hW : bW D g A s H locs [mW g adM kM tM M13] := hW
          refine lv_iconst (v := 1) hx hb dX3_innTold_89 (by decide) ?_
          cases hf
          exact b_zret hx hb hr hlk hE hW () rfl trivial rfl (by decide) dX3_innTold_90
        · have hf := o_f hf c12
          refine lv_aload_n hx hb dX3_innTold_52 rfl (lv_at hl 2 rfl) ?_
          refine lv_iconst (v := 0) hx hb dX3_innTold_53 (by decide) ?_
          refine lv_bipush (v := 100) hx hb dX3_innTold_54 (by decide) ?_
          obtain ⟨r14, M15, hc15, hf⟩ := o_b2s hf
          have hp15 : List.Perm [mW g adM kM tM M8] ([mW g adM kM tM M8] ++ []) := b_perm [0] [] 1 rfl rfl rfl rfl
          refine b_call0 ⟨rfl, rfl⟩ (va_runV (As := [.int 0, .int 100]) (rest := []) ⟨hx, hb, hml, hown, hts⟩ (m_X3_tells l D g H.size adM kM tM fu M8 0 100 r14 M15 hc15) (cwV 2 hts (lw_V q1761 q1763 qs52 q79 q1764) rfl rfl rfl (by decide +kernel) ⟨Nat.le_of_ble_eq_true rfl, Nat.le_of_ble_eq_true rfl⟩) (b_preV (pp := 0) (q := 0) hW hp15 rfl mW_0 rfl) rfl rfl hl.1 rfl (lv_room (Nat.le_of_ble_eq_true rfl)) dX3_innTold_56 ⟨Nat.le_of_ble_eq_true rfl, Nat.le_of_ble_eq_true rfl⟩) hW hp15 (fun _ _ H locs hW => ?_)
          have hW : bW D g A s H locs [mW g adM kM tM M15] := hW
          refine lv_if_ne (tgt := 64) hx hb dX3_innTold_59 (by decide) (fun c16 => ?_) (fun c16 => ?_)
          · have hf := o_f hf c16
            refine lv_aload_n hx hb dX3_innTold_64 rfl (lv_at hl 2 rfl) ?_
            refine b_get hx hb hts in_X3 hown hW 0 0 3 23 rfl mW_0 rfl (by decide) ⟨rfl, rfl, rfl⟩ (hts _ q1482) mW_g23 dX3_innTold_65 ?_
            refine lv_iconst (v := 0) hx hb dX3_innTold_68 (by decide) ?_
            refine b_iald hx hb hW 0 31 rfl mW_31 (by decide) dX3_innTold_69 ?_
            obtain ⟨v17, ev17, hf⟩ := o_ls hf
            refine b_topi ev17 ?_
            refine lv_istore_n (lv' := [(2, .int v17), (1, .int v10), (0, .ref (adM 0))]) hx hb dX3_innTold_70 rfl hl (by decide) rfl (fun ls hl => ?_)
            refine lv_aload_n hx hb dX3_innTold_71 rfl (lv_at hl 2 rfl) ?_
            refine lv_iload_n hx hb dX3_innTold_72 rfl (lv_at hl 1 rfl) ?_
            refine lv_aload_n hx hb dX3_innTold_73 rfl (lv_at hl 2 rfl) ?_
            refine b_get hx hb hts in_X3 hown hW 0 0 3 23 rfl mW_0 rfl (by decide) ⟨rfl, rfl, rfl⟩ (hts _ q1482) mW_g23 dX3_innTold_74 ?_
            refine lv_iconst (v := 1) hx hb dX3_innTold_77 (by decide) ?_
            refine b_iald hx hb hW 0 31 rfl mW_31 (by decide) dX3_innTold_78 ?_
            refine lv_aload_n hx hb dX3_innTold_79 rfl (lv_at hl 2 rfl) ?_
            refine b_get hx hb hts in_X3 hown hW 0 0 3 23 rfl mW_0 rfl (by decide) ⟨rfl, rfl, rfl⟩ (hts _ q1482) mW_g23 dX3_innTold_80 ?_
            refine lv_iconst (v := 2) hx hb dX3_innTold_83 (by decide) ?_
            refine b_iald hx hb hW 0 31 rfl mW_31 (by decide) dX3_innTold_84 ?_
            refine lv_iload_n hx hb dX3_innTold_85 rfl (lv_at hl 0 rfl) ?_
            obtain ⟨M18, hc18, hf⟩ := o_b1s hf
            have hp18 : List.Perm [mW g adM kM tM M15] ([mW g adM kM tM M15] ++ []) := b_perm [0] [] 1 rfl rfl rfl rfl
            refine b_call0 ⟨rfl, rfl⟩ (va_runV (As := [.int v10, .int (M15.1 31 (ix 1)), .int (M15.1 31 (ix 2)), .int v17]) (rest := []) ⟨hx, hb, hml, hown, hts⟩ (m_X3_addInn l D g H.size adM kM tM M15 v10 (M15.1 31 (ix 1)) (M15.1 31 (ix 2)) v17 M18 hc18) (cwV 4 hts (lw_V q1638 q1640 qs40 q79 q1641) rfl rfl rfl (by decide +kernel) ⟨Nat.le_of_ble_eq_true rfl, Nat.le_of_ble_eq_true rfl⟩) (b_preV (pp := 0) (q := 0) hW hp18 rfl mW_0 rfl) rfl rfl hl.1 rfl (lv_room (Nat.le_of_ble_eq_true rfl)) dX3_innTold_86 ⟨Nat.le_of_ble_eq_true rfl, Nat.le_of_ble_eq_true rfl⟩) hW hp18 (fun _ _ H locs hW => ?_)
            have hW : bW D g A s H locs [mW g adM kM tM M18] := hW
            refine lv_iconst (v := 1) hx hb dX3_innTold_89 (by decide) ?_
            cases hf
            exact b_zret hx hb hr hlk hE hW () rfl trivial rfl (by decide) dX3_innTold_90
          · have hf := o_t hf c16
            refine lv_iconst (v := 0) hx hb dX3_innTold_62 (by decide) ?_
            cases hf
            exact b_zret hx hb hr hlk hE hW () rfl trivial rfl (by decide) dX3_innTold_63
      · have hf := o_t hf c9
        refine lv_iconst (v := 0) hx hb dX3_innTold_32 (by decide) ?_
        cases hf
        exact b_zret hx hb hr hlk hE hW () rfl trivial rfl (by decide) dX3_innTold_33
def f_X3_statement (fu : Nat) (M : BC) : Option (Int32 × BC) :=
 o_b1 (f_X3_isWord fu M 1) fun (r1 : Int32) =>
 (if r1 = 0 then
 o_b1 (f_X3_isWord fu M 2) fun (r3 : Int32) =>
 (if r3 = 0 then
 o_b1 (f_X3_isWord fu M 3) fun (r5 : Int32) =>
 (if r5 = 0 then
 o_b1 (f_X3_isWord fu M 4) fun (r7 : Int32) =>
 (if r7 = 0 then
 o_b1 (f_X3_isWord fu M 5) fun (r9 : Int32) =>
 (if r9 = 0 then
 o_b2 (f_X3_wrong M) fun (r16 : Int32) (M17 : BC) =>
 o_ck (decide (r16 = 0) || decide (r16 = 1)) (some (r16, M17))
 else
 o_b2 (f_X3_tells fu M 0 99) fun (r11 : Int32) (M12 : BC) =>
 (if r11 = 0 then
 some (0, M12)
 else
 o_lt (M12.1 31 (ix 0)) fun (v14 : Int32) =>
 o_lt (bI M12 0 (upd (M12.1 0) 3 v14)) fun (M15 : BC) =>
 some (1, M15)))
 else
 o_b2 (f_X3_writeTold fu M) fun (r19 : Int32) (M20 : BC) =>
 o_ck (decide (r19 = 0) || decide (r19 = 1)) (some (r19, M20)))
 else
 o_b2 (f_X3_letterTold fu M) fun (r22 : Int32) (M23 : BC) =>
 o_ck (decide (r22 = 0) || decide (r22 = 1)) (some (r22, M23)))
 else
 (if (6 : Int32) ≤ (M.1 0 2) then
 o_b1 (f_X3_isWord fu M 3) fun (r26 : Int32) =>
 (if r26 = 0 then
 o_b1 (f_X3_isWord fu M 4) fun (r28 : Int32) =>
 (if r28 = 0 then
 o_b1 (f_X3_isWord fu M 5) fun (r30 : Int32) =>
 (if r30 = 0 then
 o_b2 (f_X3_wrong M) fun (r37 : Int32) (M38 : BC) =>
 o_ck (decide (r37 = 0) || decide (r37 = 1)) (some (r37, M38))
 else
 o_b2 (f_X3_tells fu M 0 99) fun (r32 : Int32) (M33 : BC) =>
 (if r32 = 0 then
 some (0, M33)
 else
 o_lt (M33.1 31 (ix 0)) fun (v35 : Int32) =>
 o_lt (bI M33 0 (upd (M33.1 0) 3 v35)) fun (M36 : BC) =>
 some (1, M36)))
 else
 o_b2 (f_X3_writeTold fu M) fun (r40 : Int32) (M41 : BC) =>
 o_ck (decide (r40 = 0) || decide (r40 = 1)) (some (r40, M41)))
 else
 o_b2 (f_X3_letterTold fu M) fun (r43 : Int32) (M44 : BC) =>
 o_ck (decide (r43 = 0) || decide (r43 = 1)) (some (r43, M44)))
 else
 o_b2 (f_X3_tells fu M 0 5) fun (r46 : Int32) (M47 : BC) =>
 (if r46 = 0 then
 some (0, M47)
 else
 o_b2 (f_X3_number fu M47 1 1 30) fun (r49 : Int32) (M50 : BC) =>
 (if r49 = 0 then
 some (0, M50)
 else
 o_b2 (f_X3_number fu M50 2 0 99) fun (r52 : Int32) (M53 : BC) =>
 (if r52 = 0 then
 some (0, M53)
 else
 o_b2 (f_X3_goer M53 (M53.1 31 (ix 0)) (M53.1 31 (ix 1)) (M53.1 31 (ix 2))) fun (r55 : Int32) (M56 : BC) =>
 some (1, M56))))))
 else
 (if (6 : Int32) ≤ (M.1 0 1) then
 o_b1 (f_X3_isWord fu M 2) fun (r58 : Int32) =>
 (if r58 = 0 then
 o_b1 (f_X3_isWord fu M 3) fun (r60 : Int32) =>
 (if r60 = 0 then
 o_b1 (f_X3_isWord fu M 4) fun (r62 : Int32) =>
 (if r62 = 0 then
 o_b1 (f_X3_isWord fu M 5) fun (r64 : Int32) =>
 (if r64 = 0 then
 o_b2 (f_X3_wrong M) fun (r71 : Int32) (M72 : BC) =>
 o_ck (decide (r71 = 0) || decide (r71 = 1)) (some (r71, M72))
 else
 o_b2 (f_X3_tells fu M 0 99) fun (r66 : Int32) (M67 : BC) =>
 (if r66 = 0 then
 some (0, M67)
 else
 o_lt (M67.1 31 (ix 0)) fun (v69 : Int32) =>
 o_lt (bI M67 0 (upd (M67.1 0) 3 v69)) fun (M70 : BC) =>
 some (1, M70)))
 else
 o_b2 (f_X3_writeTold fu M) fun (r74 : Int32) (M75 : BC) =>
 o_ck (decide (r74 = 0) || decide (r74 = 1)) (some (r74, M75)))
 else
 o_b2 (f_X3_letterTold fu M) fun (r77 : Int32) (M78 : BC) =>
 o_ck (decide (r77 = 0) || decide (r77 = 1)) (some (r77, M78)))
 else
 (if (6 : Int32) ≤ (M.1 0 2) then
 o_b1 (f_X3_isWord fu M 3) fun (r81 : Int32) =>
 (if r81 = 0 then
 o_b1 (f_X3_isWord fu M 4) fun (r83 : Int32) =>
 (if r83 = 0 then
 o_b1 (f_X3_isWord fu M 5) fun (r85 : Int32) =>
 (if r85 = 0 then
 o_b2 (f_X3_wrong M) fun (r92 : Int32) (M93 : BC) =>
 o_ck (decide (r92 = 0) || decide (r92 = 1)) (some (r92, M93))
 else
 o_b2 (f_X3_tells fu M 0 99) fun (r87 : Int32) (M88 : BC) =>
 (if r87 = 0 then
 some (0, M88)
 else
 o_lt (M88.1 31 (ix 0)) fun (v90 : Int32) =>
 o_lt (bI M88 0 (upd (M88.1 0) 3 v90)) fun (M91 : BC) =>
 some (1, M91)))
 else
 o_b2 (f_X3_writeTold fu M) fun (r95 : Int32) (M96 : BC) =>
 o_ck (decide (r95 = 0) || decide (r95 = 1)) (some (r95, M96)))
 else
 o_b2 (f_X3_letterTold fu M) fun (r98 : Int32) (M99 : BC) =>
 o_ck (decide (r98 = 0) || decide (r98 = 1)) (some (r98, M99)))
 else
 o_b2 (f_X3_tells fu M 0 5) fun (r101 : Int32) (M102 : BC) =>
 (if r101 = 0 then
 some (0, M102)
 else
 o_b2 (f_X3_number fu M102 1 1 30) fun (r104 : Int32) (M105 : BC) =>
 (if r104 = 0 then
 some (0, M105)
 else
 o_b2 (f_X3_number fu M105 2 0 99) fun (r107 : Int32) (M108 : BC) =>
 (if r107 = 0 then
 some (0, M108)
 else
 o_b2 (f_X3_goer M108 (M108.1 31 (ix 0)) (M108.1 31 (ix 1)) (M108.1 31 (ix 2))) fun (r110 : Int32) (M111 : BC) =>
 some (1, M111))))))
 else
 o_b2 (f_X3_innTold fu M) fun (r112 : Int32) (M113 : BC) =>
 o_ck (decide (r112 = 0) || decide (r112 = 1)) (some (r112, M113))))
abbrev rm_X3_statement : Room := { frames := 6, cells := 0, slots := 0, locals := 129 }
set_option maxHeartbeats 4000000 in
set_option maxRecDepth 100000 in
theorem m_X3_statement (l : Launch) (D : va_G) (g : Nat → ClassId) (sz : Nat) (adM : Nat → Nat) (kM : Option Nat) (tM : Option Nat) (fu : Nat) (M : BC) (rO : Int32) (MO : BC) (hf : f_X3_statement fu M = some (rO, MO)) : bMet (S := Unit) l yX3_statement (ws_ yX3_statement cX3_statement 1 (some .boolean)) rm_X3_statement D g sz [.ref (adM 0)] [mW g adM kM tM M] (fun _ => True) (fun _ => some (.int rO)) (fun _ => [mW g adM kM tM MO]) := by
  refine b_met (by decide) (Nat.le_of_ble_eq_true rfl) ?_
  intro p e s m args below meth c A Q ls hx hb hml hr hlk hown hname hts hE hl hW
  revert hW; generalize s.heap = H; intro hW
  have hl : lv_has ls 1 [(0, .ref (adM 0))] := hl
  rw [f_X3_statement] at hf
  refine lv_aload_n hx hb dX3_statement_0 rfl (lv_at hl 0 rfl) ?_
  refine va_ldcS hx hb hown (b_kld hW (own := "EverybodyHasTheBookModel") (idx := 202) (tx := "inn") (i := 1) 7 rfl) dX3_statement_1 ?_
  obtain ⟨r1, hc1, hf⟩ := o_b1s hf
  have hp1 : List.Perm ([mW g adM kM tM M] : List va_W) ([mW g adM kM tM M] ++ []) := b_perm [0] [] 1 rfl rfl rfl rfl
  refine b_call0 ⟨rfl, rfl⟩ (va_runV (As := [.ref (g (100 + 1))]) (rest := []) ⟨hx, hb, hml, hown, hts⟩ (m_X3_isWord l D g H.size adM kM tM fu M 1 r1 (by decide) hc1) (cwV 1 hts (lw_V q1734 q1736 qs50 q79 q1737) rfl rfl rfl (by decide +kernel) ⟨Nat.le_of_ble_eq_true rfl, Nat.le_of_ble_eq_true rfl⟩) (b_preV (pp := 0) (q := 0) hW hp1 rfl mW_0 rfl) rfl rfl hl.1 rfl (lv_room (Nat.le_of_ble_eq_true rfl)) dX3_statement_3 ⟨Nat.le_of_ble_eq_true rfl, Nat.le_of_ble_eq_true rfl⟩) hW hp1 (fun _ _ H locs hW => ?_)
  have hW : bW D g A s H locs [mW g adM kM tM M] := hW
  refine lv_if_eq (tgt := 23) hx hb dX3_statement_6 (by decide) (fun c2 => ?_) (fun c2 => ?_)
  · have hf := o_t hf c2
    refine lv_aload_n hx hb dX3_statement_23 rfl (lv_at hl 0 rfl) ?_
    refine va_ldcS hx hb hown (b_kld hW (own := "EverybodyHasTheBookModel") (idx := 206) (tx := "goer") (i := 2) 9 rfl) dX3_statement_24 ?_
    obtain ⟨r3, hc3, hf⟩ := o_b1s hf
    have hp3 : List.Perm ([mW g adM kM tM M] : List va_W) ([mW g adM kM tM M] ++ []) := b_perm [0] [] 1 rfl rfl rfl rfl
    refine b_call0 ⟨rfl, rfl⟩ (va_runV (As := [.ref (g (100 + 2))]) (rest := []) ⟨hx, hb, hml, hown, hts⟩ (m_X3_isWord l D g H.size adM kM tM fu M 2 r3 (by decide) hc3) (cwV 1 hts (lw_V q1734 q1736 qs50 q79 q1737) rfl rfl rfl (by decide +kernel) ⟨Nat.le_of_ble_eq_true rfl, Nat.le_of_ble_eq_true rfl⟩) (b_preV (pp := 0) (q := 0) hW hp3 rfl mW_0 rfl) rfl rfl hl.1 rfl (lv_room (Nat.le_of_ble_eq_true rfl)) dX3_statement_26 ⟨Nat.le_of_ble_eq_true rfl, Nat.le_of_ble_eq_true rfl⟩) hW hp3 (fun _ _ H locs hW => ?_)
    have hW : bW D g A s H locs [mW g adM kM tM M] := hW
    refine lv_if_eq (tgt := 99) hx hb dX3_statement_29 (by decide) (fun c4 => ?_) (fun c4 => ?_)
    · have hf := o_t hf c4
      refine lv_aload_n hx hb dX3_statement_99 rfl (lv_at hl 0 rfl) ?_
      refine va_ldcS hx hb hown (b_kld hW (own := "EverybodyHasTheBookModel") (idx := 210) (tx := "letter") (i := 3) 10 rfl) dX3_statement_100 ?_
      obtain ⟨r5, hc5, hf⟩ := o_b1s hf
      have hp5 : List.Perm ([mW g adM kM tM M] : List va_W) ([mW g adM kM tM M] ++ []) := b_perm [0] [] 1 rfl rfl rfl rfl
      refine b_call0 ⟨rfl, rfl⟩ (va_runV (As := [.ref (g (100 + 3))]) (rest := []) ⟨hx, hb, hml, hown, hts⟩ (m_X3_isWord l D g H.size adM kM tM fu M 3 r5 (by decide) hc5) (cwV 1 hts (lw_V q1734 q1736 qs50 q79 q1737) rfl rfl rfl (by decide +kernel) ⟨Nat.le_of_ble_eq_true rfl, Nat.le_of_ble_eq_true rfl⟩) (b_preV (pp := 0) (q := 0) hW hp5 rfl mW_0 rfl) rfl rfl hl.1 rfl (lv_room (Nat.le_of_ble_eq_true rfl)) dX3_statement_102 ⟨Nat.le_of_ble_eq_true rfl, Nat.le_of_ble_eq_true rfl⟩) hW hp5 (fun _ _ H locs hW => ?_)
      have hW : bW D g A s H locs [mW g adM kM tM M] := hW
      refine lv_if_eq (tgt := 113) hx hb dX3_statement_105 (by decide) (fun c6 => ?_) (fun c6 => ?_)
      · have hf := o_t hf c6
        refine lv_aload_n hx hb dX3_statement_113 rfl (lv_at hl 0 rfl) ?_
        refine va_ldcS hx hb hown (b_kld hW (own := "EverybodyHasTheBookModel") (idx := 215) (tx := "write") (i := 4) 11 rfl) dX3_statement_114 ?_
        obtain ⟨r7, hc7, hf⟩ := o_b1s hf
        have hp7 : List.Perm ([mW g adM kM tM M] : List va_W) ([mW g adM kM tM M] ++ []) := b_perm [0] [] 1 rfl rfl rfl rfl
        refine b_call0 ⟨rfl, rfl⟩ (va_runV (As := [.ref (g (100 + 4))]) (rest := []) ⟨hx, hb, hml, hown, hts⟩ (m_X3_isWord l D g H.size adM kM tM fu M 4 r7 (by decide) hc7) (cwV 1 hts (lw_V q1734 q1736 qs50 q79 q1737) rfl rfl rfl (by decide +kernel) ⟨Nat.le_of_ble_eq_true rfl, Nat.le_of_ble_eq_true rfl⟩) (b_preV (pp := 0) (q := 0) hW hp7 rfl mW_0 rfl) rfl rfl hl.1 rfl (lv_room (Nat.le_of_ble_eq_true rfl)) dX3_statement_116 ⟨Nat.le_of_ble_eq_true rfl, Nat.le_of_ble_eq_true rfl⟩) hW hp7 (fun _ _ H locs hW => ?_)
        have hW : bW D g A s H locs [mW g adM kM tM M] := hW
        refine lv_if_eq (tgt := 127) hx hb dX3_statement_119 (by decide) (fun c8 => ?_) (fun c8 => ?_)
        · have hf := o_t hf c8
          refine lv_aload_n hx hb dX3_statement_127 rfl (lv_at hl 0 rfl) ?_
          refine va_ldcS hx hb hown (b_kld hW (own := "EverybodyHasTheBookModel") (idx := 220) (tx := "age") (i := 5) 12 rfl) dX3_statement_128 ?_
          obtain ⟨r9, hc9, hf⟩ := o_b1s hf
          have hp9 : List.Perm ([mW g adM kM tM M] : List va_W) ([mW g adM kM tM M] ++ []) := b_perm [0] [] 1 rfl rfl rfl rfl
          refine b_call0 ⟨rfl, rfl⟩ (va_runV (As := [.ref (g (100 + 5))]) (rest := []) ⟨hx, hb, hml, hown, hts⟩ (m_X3_isWord l D g H.size adM kM tM fu M 5 r9 (by decide) hc9) (cwV 1 hts (lw_V q1734 q1736 qs50 q79 q1737) rfl rfl rfl (by decide +kernel) ⟨Nat.le_of_ble_eq_true rfl, Nat.le_of_ble_eq_true rfl⟩) (b_preV (pp := 0) (q := 0) hW hp9 rfl mW_0 rfl) rfl rfl hl.1 rfl (lv_room (Nat.le_of_ble_eq_true rfl)) dX3_statement_130 ⟨Nat.le_of_ble_eq_true rfl, Nat.le_of_ble_eq_true rfl⟩) hW hp9 (fun _ _ H locs hW => ?_)
          have hW : bW D g A s H locs [mW g adM kM tM M] := hW
          refine lv_if_ne (tgt := 141) hx hb dX3_statement_133 (by decide) (fun c10 => ?_) (fun c10 => ?_)
          · have hf := o_f hf c10
            refine lv_aload_n hx hb dX3_statement_141 rfl (lv_at hl 0 rfl) ?_
            refine lv_iconst (v := 0) hx hb dX3_statement_142 (by decide) ?_
            refine lv_bipush (v := 99) hx hb dX3_statement_143 (by decide) ?_
            obtain ⟨r11, M12, hc12, hf⟩ := o_b2s hf
            have hp12 : List.Perm [mW g adM kM tM M] ([mW g adM kM tM M] ++ []) := b_perm [0] [] 1 rfl rfl rfl rfl
            refine b_call0 ⟨rfl, rfl⟩ (va_runV (As := [.int 0, .int 99]) (rest := []) ⟨hx, hb, hml, hown, hts⟩ (m_X3_tells l D g H.size adM kM tM fu M 0 99 r11 M12 hc12) (cwV 2 hts (lw_V q1761 q1763 qs52 q79 q1764) rfl rfl rfl (by decide +kernel) ⟨Nat.le_of_ble_eq_true rfl, Nat.le_of_ble_eq_true rfl⟩) (b_preV (pp := 0) (q := 0) hW hp12 rfl mW_0 rfl) rfl rfl hl.1 rfl (lv_room (Nat.le_of_ble_eq_true rfl)) dX3_statement_145 ⟨Nat.le_of_ble_eq_true rfl, Nat.le_of_ble_eq_true rfl⟩) hW hp12 (fun _ _ H locs hW => ?_)
            have hW : bW D g A s H locs [mW g adM kM tM M12] := hW
            refine lv_if_ne (tgt := 153) hx hb dX3_statement_148 (by decide) (fun c13 => ?_) (fun c13 => ?_)
            · have hf := o_f hf c13
              refine lv_aload_n hx hb dX3_statement_153 rfl (lv_at hl 0 rfl) ?_
              refine lv_aload_n hx hb dX3_statement_154 rfl (lv_at hl 0 rfl) ?_
              refine b_get hx hb hts in_X3 hown hW 0 0 3 23 rfl mW_0 rfl (by decide) ⟨rfl, rfl, rfl⟩ (hts _ q1482) mW_g23 dX3_statement_155 ?_
              refine lv_iconst (v := 0) hx hb dX3_statement_158 (by decide) ?_
              refine b_iald hx hb hW 0 31 rfl mW_31 (by decide) dX3_statement_159 ?_
              obtain ⟨v14, ev14, hf⟩ := o_ls hf
              refine b_topi ev14 ?_
              obtain ⟨M15, eM15, hf⟩ := o_ls hf
              refine b_put hx hb hts in_X3 tyX3 tyX3_ok nmX3 hown hW 0 0 3 13 rfl mW_0 (mW_p13 eM15) rfl rfl (by decide) ⟨rfl, rfl, rfl⟩ (hts _ q1472) rfl (ty := .int) rfl rfl rfl (by rw [mW_l]; decide) dX3_statement_160 (fun H locs hW => ?_)
              have hW : bW D g A s H locs [mW g adM kM tM M15] := hW
              refine lv_iconst (v := 1) hx hb dX3_statement_163 (by decide) ?_
              cases hf
              exact b_zret hx hb hr hlk hE hW () rfl trivial rfl (by decide) dX3_statement_164
            · have hf := o_t hf c13
              refine lv_iconst (v := 0) hx hb dX3_statement_151 (by decide) ?_
              cases hf
              exact b_zret hx hb hr hlk hE hW () rfl trivial rfl (by decide) dX3_statement_152
          · have hf := o_t hf c10
            refine lv_aload_n hx hb dX3_statement_136 rfl (lv_at hl 0 rfl) ?_
            obtain ⟨r16, M17, hc17, hf⟩ := o_b2s hf
            have hp17 : List.Perm [mW g adM kM tM M] ([mW g adM kM tM M] ++ []) := b_perm [0] [] 1 rfl rfl rfl rfl
            refine b_call0 ⟨rfl, rfl⟩ (va_runV (As := []) (rest := []) ⟨hx, hb, hml, hown, hts⟩ (m_X3_wrong l D g H.size adM kM tM M r16 M17 hc17) (cwV 0 hts (lw_V q1769 q1771 qs54 q79 q1772) rfl rfl rfl (by decide +kernel) ⟨Nat.le_of_ble_eq_true rfl, Nat.le_of_ble_eq_true rfl⟩) (b_preV (pp := 0) (q := 0) hW hp17 rfl mW_0 rfl) rfl rfl hl.1 rfl (lv_room (Nat.le_of_ble_eq_true rfl)) dX3_statement_137 ⟨Nat.le_of_ble_eq_true rfl, Nat.le_of_ble_eq_true rfl⟩) hW hp17 (fun _ _ H locs hW => ?_)
            have hW : bW D g A s H locs [mW g adM kM tM M17] := hW
            obtain ⟨h18, hf⟩ := o_cs hf
            cases hf
            exact b_zret hx hb hr hlk hE hW () rfl trivial rfl h18 dX3_statement_140
        · have hf := o_f hf c8
          refine lv_aload_n hx hb dX3_statement_122 rfl (lv_at hl 0 rfl) ?_
          obtain ⟨r19, M20, hc20, hf⟩ := o_b2s hf
          have hp20 : List.Perm [mW g adM kM tM M] ([mW g adM kM tM M] ++ []) := b_perm [0] [] 1 rfl rfl rfl rfl
          refine b_call0 ⟨rfl, rfl⟩ (va_runV (As := []) (rest := []) ⟨hx, hb, hml, hown, hts⟩ (m_X3_writeTold l D g H.size adM kM tM fu M r19 M20 hc20) (cwV 0 hts (lw_V q1782 q1784 qs56 q79 q1785) rfl rfl rfl (by decide +kernel) ⟨Nat.le_of_ble_eq_true rfl, Nat.le_of_ble_eq_true rfl⟩) (b_preV (pp := 0) (q := 0) hW hp20 rfl mW_0 rfl) rfl rfl hl.1 rfl (lv_room (Nat.le_of_ble_eq_true rfl)) dX3_statement_123 ⟨Nat.le_of_ble_eq_true rfl, Nat.le_of_ble_eq_true rfl⟩) hW hp20 (fun _ _ H locs hW => ?_)
          have hW : bW D g A s H locs [mW g adM kM tM M20] := hW
          obtain ⟨h21, hf⟩ := o_cs hf
          cases hf
          exact b_zret hx hb hr hlk hE hW () rfl trivial rfl h21 dX3_statement_126
      · have hf := o_f hf c6
        refine lv_aload_n hx hb dX3_statement_108 rfl (lv_at hl 0 rfl) ?_
        obtain ⟨r22, M23, hc23, hf⟩ := o_b2s hf
        have hp23 : List.Perm [mW g adM kM tM M] ([mW g adM kM tM M] ++ []) := b_perm [0] [] 1 rfl rfl rfl rfl
        refine b_call0 ⟨rfl, rfl⟩ (va_runV (As := []) (rest := []) ⟨hx, hb, hml, hown, hts⟩ (m_X3_letterTold l D g H.size adM kM tM fu M r22 M23 hc23) (cwV 0 hts (lw_V q1777 q1779 qs55 q79 q1780) rfl rfl rfl (by decide +kernel) ⟨Nat.le_of_ble_eq_true rfl, Nat.le_of_ble_eq_true rfl⟩) (b_preV (pp := 0) (q := 0) hW hp23 rfl mW_0 rfl) rfl rfl hl.1 rfl (lv_room (Nat.le_of_ble_eq_true rfl)) dX3_statement_109 ⟨Nat.le_of_ble_eq_true rfl, Nat.le_of_ble_eq_true rfl⟩) hW hp23 (fun _ _ H locs hW => ?_)
        have hW : bW D g A s H locs [mW g adM kM tM M23] := hW
        obtain ⟨h24, hf⟩ := o_cs hf
        cases hf
        exact b_zret hx hb hr hlk hE hW () rfl trivial rfl h24 dX3_statement_112
    · have hf := o_f hf c4
      refine lv_aload_n hx hb dX3_statement_32 rfl (lv_at hl 0 rfl) ?_
      refine b_get hx hb hts in_X3 hown hW 0 0 3 11 rfl mW_0 rfl (by decide) ⟨rfl, rfl, rfl⟩ (hts _ q1470) mW_g11 dX3_statement_33 ?_
      refine lv_bipush (v := 6) hx hb dX3_statement_36 (by decide) ?_
      refine lv_icmp_ge (tgt := 99) hx hb dX3_statement_38 (by decide) (fun c25 => ?_) (fun c25 => ?_)
      · have hf := o_t hf c25
        refine lv_aload_n hx hb dX3_statement_99 rfl (lv_at hl 0 rfl) ?_
        refine va_ldcS hx hb hown (b_kld hW (own := "EverybodyHasTheBookModel") (idx := 210) (tx := "letter") (i := 3) 10 rfl) dX3_statement_100 ?_
        obtain ⟨r26, hc26, hf⟩ := o_b1s hf
        have hp26 : List.Perm ([mW g adM kM tM M] : List va_W) ([mW g adM kM tM M] ++ []) := b_perm [0] [] 1 rfl rfl rfl rfl
        refine b_call0 ⟨rfl, rfl⟩ (va_runV (As := [.ref (g (100 + 3))]) (rest := []) ⟨hx, hb, hml, hown, hts⟩ (m_X3_isWord l D g H.size adM kM tM fu M 3 r26 (by decide) hc26) (cwV 1 hts (lw_V q1734 q1736 qs50 q79 q1737) rfl rfl rfl (by decide +kernel) ⟨Nat.le_of_ble_eq_true rfl, Nat.le_of_ble_eq_true rfl⟩) (b_preV (pp := 0) (q := 0) hW hp26 rfl mW_0 rfl) rfl rfl hl.1 rfl (lv_room (Nat.le_of_ble_eq_true rfl)) dX3_statement_102 ⟨Nat.le_of_ble_eq_true rfl, Nat.le_of_ble_eq_true rfl⟩) hW hp26 (fun _ _ H locs hW => ?_)
        have hW : bW D g A s H locs [mW g adM kM tM M] := hW
        refine lv_if_eq (tgt := 113) hx hb dX3_statement_105 (by decide) (fun c27 => ?_) (fun c27 => ?_)
        · have hf := o_t hf c27
          refine lv_aload_n hx hb dX3_statement_113 rfl (lv_at hl 0 rfl) ?_
          refine va_ldcS hx hb hown (b_kld hW (own := "EverybodyHasTheBookModel") (idx := 215) (tx := "write") (i := 4) 11 rfl) dX3_statement_114 ?_
          obtain ⟨r28, hc28, hf⟩ := o_b1s hf
          have hp28 : List.Perm ([mW g adM kM tM M] : List va_W) ([mW g adM kM tM M] ++ []) := b_perm [0] [] 1 rfl rfl rfl rfl
          refine b_call0 ⟨rfl, rfl⟩ (va_runV (As := [.ref (g (100 + 4))]) (rest := []) ⟨hx, hb, hml, hown, hts⟩ (m_X3_isWord l D g H.size adM kM tM fu M 4 r28 (by decide) hc28) (cwV 1 hts (lw_V q1734 q1736 qs50 q79 q1737) rfl rfl rfl (by decide +kernel) ⟨Nat.le_of_ble_eq_true rfl, Nat.le_of_ble_eq_true rfl⟩) (b_preV (pp := 0) (q := 0) hW hp28 rfl mW_0 rfl) rfl rfl hl.1 rfl (lv_room (Nat.le_of_ble_eq_true rfl)) dX3_statement_116 ⟨Nat.le_of_ble_eq_true rfl, Nat.le_of_ble_eq_true rfl⟩) hW hp28 (fun _ _ H locs hW => ?_)
          have hW : bW D g A s H locs [mW g adM kM tM M] := hW
          refine lv_if_eq (tgt := 127) hx hb dX3_statement_119 (by decide) (fun c29 => ?_) (fun c29 => ?_)
          · have hf := o_t hf c29
            refine lv_aload_n hx hb dX3_statement_127 rfl (lv_at hl 0 rfl) ?_
            refine va_ldcS hx hb hown (b_kld hW (own := "EverybodyHasTheBookModel") (idx := 220) (tx := "age") (i := 5) 12 rfl) dX3_statement_128 ?_
            obtain ⟨r30, hc30, hf⟩ := o_b1s hf
            have hp30 : List.Perm ([mW g adM kM tM M] : List va_W) ([mW g adM kM tM M] ++ []) := b_perm [0] [] 1 rfl rfl rfl rfl
            refine b_call0 ⟨rfl, rfl⟩ (va_runV (As := [.ref (g (100 + 5))]) (rest := []) ⟨hx, hb, hml, hown, hts⟩ (m_X3_isWord l D g H.size adM kM tM fu M 5 r30 (by decide) hc30) (cwV 1 hts (lw_V q1734 q1736 qs50 q79 q1737) rfl rfl rfl (by decide +kernel) ⟨Nat.le_of_ble_eq_true rfl, Nat.le_of_ble_eq_true rfl⟩) (b_preV (pp := 0) (q := 0) hW hp30 rfl mW_0 rfl) rfl rfl hl.1 rfl (lv_room (Nat.le_of_ble_eq_true rfl)) dX3_statement_130 ⟨Nat.le_of_ble_eq_true rfl, Nat.le_of_ble_eq_true rfl⟩) hW hp30 (fun _ _ H locs hW => ?_)
            have hW : bW D g A s H locs [mW g adM kM tM M] := hW
            refine lv_if_ne (tgt := 141) hx hb dX3_statement_133 (by decide) (fun c31 => ?_) (fun c31 => ?_)
            · have hf := o_f hf c31
              refine lv_aload_n hx hb dX3_statement_141 rfl (lv_at hl 0 rfl) ?_
              refine lv_iconst (v := 0) hx hb dX3_statement_142 (by decide) ?_
              refine lv_bipush (v := 99) hx hb dX3_statement_143 (by decide) ?_
              obtain ⟨r32, M33, hc33, hf⟩ := o_b2s hf
              have hp33 : List.Perm [mW g adM kM tM M] ([mW g adM kM tM M] ++ []) := b_perm [0] [] 1 rfl rfl rfl rfl
              refine b_call0 ⟨rfl, rfl⟩ (va_runV (As := [.int 0, .int 99]) (rest := []) ⟨hx, hb, hml, hown, hts⟩ (m_X3_tells l D g H.size adM kM tM fu M 0 99 r32 M33 hc33) (cwV 2 hts (lw_V q1761 q1763 qs52 q79 q1764) rfl rfl rfl (by decide +kernel) ⟨Nat.le_of_ble_eq_true rfl, Nat.le_of_ble_eq_true rfl⟩) (b_preV (pp := 0) (q := 0) hW hp33 rfl mW_0 rfl) rfl rfl hl.1 rfl (lv_room (Nat.le_of_ble_eq_true rfl)) dX3_statement_145 ⟨Nat.le_of_ble_eq_true rfl, Nat.le_of_ble_eq_true rfl⟩) hW hp33 (fun _ _ H locs hW => ?_)
              have hW : bW D g A s H locs [mW g adM kM tM M33] := hW
              refine lv_if_ne (tgt := 153) hx hb dX3_statement_148 (by decide) (fun c34 => ?_) (fun c34 => ?_)
              · have hf := o_f hf c34
                refine lv_aload_n hx hb dX3_statement_153 rfl (lv_at hl 0 rfl) ?_
                refine lv_aload_n hx hb dX3_statement_154 rfl (lv_at hl 0 rfl) ?_
                refine b_get hx hb hts in_X3 hown hW 0 0 3 23 rfl mW_0 rfl (by decide) ⟨rfl, rfl, rfl⟩ (hts _ q1482) mW_g23 dX3_statement_155 ?_
                refine lv_iconst (v := 0) hx hb dX3_statement_158 (by decide) ?_
                refine b_iald hx hb hW 0 31 rfl mW_31 (by decide) dX3_statement_159 ?_
                obtain ⟨v35, ev35, hf⟩ := o_ls hf
                refine b_topi ev35 ?_
                obtain ⟨M36, eM36, hf⟩ := o_ls hf
                refine b_put hx hb hts in_X3 tyX3 tyX3_ok nmX3 hown hW 0 0 3 13 rfl mW_0 (mW_p13 eM36) rfl rfl (by decide) ⟨rfl, rfl, rfl⟩ (hts _ q1472) rfl (ty := .int) rfl rfl rfl (by rw [mW_l]; decide) dX3_statement_160 (fun H locs hW => ?_)
                have hW : bW D g A s H locs [mW g adM kM tM M36] := hW
                refine lv_iconst (v := 1) hx hb dX3_statement_163 (by decide) ?_
                cases hf
                exact b_zret hx hb hr hlk hE hW () rfl trivial rfl (by decide) dX3_statement_164
              · have hf := o_t hf c34
                refine lv_iconst (v := 0) hx hb dX3_statement_151 (by decide) ?_
                cases hf
                exact b_zret hx hb hr hlk hE hW () rfl trivial rfl (by decide) dX3_statement_152
            · have hf := o_t hf c31
              refine lv_aload_n hx hb dX3_statement_136 rfl (lv_at hl 0 rfl) ?_
              obtain ⟨r37, M38, hc38, hf⟩ := o_b2s hf
              have hp38 : List.Perm [mW g adM kM tM M] ([mW g adM kM tM M] ++ []) := b_perm [0] [] 1 rfl rfl rfl rfl
              refine b_call0 ⟨rfl, rfl⟩ (va_runV (As := []) (rest := []) ⟨hx, hb, hml, hown, hts⟩ (m_X3_wrong l D g H.size adM kM tM M r37 M38 hc38) (cwV 0 hts (lw_V q1769 q1771 qs54 q79 q1772) rfl rfl rfl (by decide +kernel) ⟨Nat.le_of_ble_eq_true rfl, Nat.le_of_ble_eq_true rfl⟩) (b_preV (pp := 0) (q := 0) hW hp38 rfl mW_0 rfl) rfl rfl hl.1 rfl (lv_room (Nat.le_of_ble_eq_true rfl)) dX3_statement_137 ⟨Nat.le_of_ble_eq_true rfl, Nat.le_of_ble_eq_true rfl⟩) hW hp38 (fun _ _ H locs hW => ?_)
              have hW : bW D g A s H locs [mW g adM kM tM M38] := hW
              obtain ⟨h39, hf⟩ := o_cs hf
              cases hf
              exact b_zret hx hb hr hlk hE hW () rfl trivial rfl h39 dX3_statement_140
          · have hf := o_f hf c29
            refine lv_aload_n hx hb dX3_statement_122 rfl (lv_at hl 0 rfl) ?_
            obtain ⟨r40, M41, hc41, hf⟩ := o_b2s hf
            have hp41 : List.Perm [mW g adM kM tM M] ([mW g adM kM tM M] ++ []) := b_perm [0] [] 1 rfl rfl rfl rfl
            refine b_call0 ⟨rfl, rfl⟩ (va_runV (As := []) (rest := []) ⟨hx, hb, hml, hown, hts⟩ (m_X3_writeTold l D g H.size adM kM tM fu M r40 M41 hc41) (cwV 0 hts (lw_V q1782 q1784 qs56 q79 q1785) rfl rfl rfl (by decide +kernel) ⟨Nat.le_of_ble_eq_true rfl, Nat.le_of_ble_eq_true rfl⟩) (b_preV (pp := 0) (q := 0) hW hp41 rfl mW_0 rfl) rfl rfl hl.1 rfl (lv_room (Nat.le_of_ble_eq_true rfl)) dX3_statement_123 ⟨Nat.le_of_ble_eq_true rfl, Nat.le_of_ble_eq_true rfl⟩) hW hp41 (fun _ _ H locs hW => ?_)
            have hW : bW D g A s H locs [mW g adM kM tM M41] := hW
            obtain ⟨h42, hf⟩ := o_cs hf
            cases hf
            exact b_zret hx hb hr hlk hE hW () rfl trivial rfl h42 dX3_statement_126
        · have hf := o_f hf c27
          refine lv_aload_n hx hb dX3_statement_108 rfl (lv_at hl 0 rfl) ?_
          obtain ⟨r43, M44, hc44, hf⟩ := o_b2s hf
          have hp44 : List.Perm [mW g adM kM tM M] ([mW g adM kM tM M] ++ []) := b_perm [0] [] 1 rfl rfl rfl rfl
          refine b_call0 ⟨rfl, rfl⟩ (va_runV (As := []) (rest := []) ⟨hx, hb, hml, hown, hts⟩ (m_X3_letterTold l D g H.size adM kM tM fu M r43 M44 hc44) (cwV 0 hts (lw_V q1777 q1779 qs55 q79 q1780) rfl rfl rfl (by decide +kernel) ⟨Nat.le_of_ble_eq_true rfl, Nat.le_of_ble_eq_true rfl⟩) (b_preV (pp := 0) (q := 0) hW hp44 rfl mW_0 rfl) rfl rfl hl.1 rfl (lv_room (Nat.le_of_ble_eq_true rfl)) dX3_statement_109 ⟨Nat.le_of_ble_eq_true rfl, Nat.le_of_ble_eq_true rfl⟩) hW hp44 (fun _ _ H locs hW => ?_)
          have hW : bW D g A s H locs [mW g adM kM tM M44] := hW
          obtain ⟨h45, hf⟩ := o_cs hf
          cases hf
          exact b_zret hx hb hr hlk hE hW () rfl trivial rfl h45 dX3_statement_112
      · have hf := o_f hf c25
        refine lv_aload_n hx hb dX3_statement_41 rfl (lv_at hl 0 rfl) ?_
        refine lv_iconst (v := 0) hx hb dX3_statement_42 (by decide) ?_
        refine lv_iconst (v := 5) hx hb dX3_statement_43 (by decide) ?_
        obtain ⟨r46, M47, hc47, hf⟩ := o_b2s hf
        have hp47 : List.Perm [mW g adM kM tM M] ([mW g adM kM tM M] ++ []) := b_perm [0] [] 1 rfl rfl rfl rfl
        refine b_call0 ⟨rfl, rfl⟩ (va_runV (As := [.int 0, .int 5]) (rest := []) ⟨hx, hb, hml, hown, hts⟩ (m_X3_tells l D g H.size adM kM tM fu M 0 5 r46 M47 hc47) (cwV 2 hts (lw_V q1761 q1763 qs52 q79 q1764) rfl rfl rfl (by decide +kernel) ⟨Nat.le_of_ble_eq_true rfl, Nat.le_of_ble_eq_true rfl⟩) (b_preV (pp := 0) (q := 0) hW hp47 rfl mW_0 rfl) rfl rfl hl.1 rfl (lv_room (Nat.le_of_ble_eq_true rfl)) dX3_statement_44 ⟨Nat.le_of_ble_eq_true rfl, Nat.le_of_ble_eq_true rfl⟩) hW hp47 (fun _ _ H locs hW => ?_)
        have hW : bW D g A s H locs [mW g adM kM tM M47] := hW
        refine lv_if_eq (tgt := 72) hx hb dX3_statement_47 (by decide) (fun c48 => ?_) (fun c48 => ?_)
        · have hf := o_t hf c48
          refine lv_iconst (v := 0) hx hb dX3_statement_72 (by decide) ?_
          cases hf
          exact b_zret hx hb hr hlk hE hW () rfl trivial rfl (by decide) dX3_statement_73
        · have hf := o_f hf c48
          refine lv_aload_n hx hb dX3_statement_50 rfl (lv_at hl 0 rfl) ?_
          refine lv_iconst (v := 1) hx hb dX3_statement_51 (by decide) ?_
          refine lv_iconst (v := 1) hx hb dX3_statement_52 (by decide) ?_
          refine lv_bipush (v := 30) hx hb dX3_statement_53 (by decide) ?_
          obtain ⟨r49, M50, hc50, hf⟩ := o_b2s hf
          have hp50 : List.Perm [mW g adM kM tM M47] ([mW g adM kM tM M47] ++ []) := b_perm [0] [] 1 rfl rfl rfl rfl
          refine b_call0 ⟨rfl, rfl⟩ (va_runV (As := [.int 1, .int 1, .int 30]) (rest := []) ⟨hx, hb, hml, hown, hts⟩ (m_X3_number l D g H.size adM kM tM fu M47 1 1 30 r49 M50 hc50) (cwV 3 hts (lw_V q1765 q1767 qs53 q79 q1768) rfl rfl rfl (by decide +kernel) ⟨Nat.le_of_ble_eq_true rfl, Nat.le_of_ble_eq_true rfl⟩) (b_preV (pp := 0) (q := 0) hW hp50 rfl mW_0 rfl) rfl rfl hl.1 rfl (lv_room (Nat.le_of_ble_eq_true rfl)) dX3_statement_55 ⟨Nat.le_of_ble_eq_true rfl, Nat.le_of_ble_eq_true rfl⟩) hW hp50 (fun _ _ H locs hW => ?_)
          have hW : bW D g A s H locs [mW g adM kM tM M50] := hW
          refine lv_if_eq (tgt := 72) hx hb dX3_statement_58 (by decide) (fun c51 => ?_) (fun c51 => ?_)
          · have hf := o_t hf c51
            refine lv_iconst (v := 0) hx hb dX3_statement_72 (by decide) ?_
            cases hf
            exact b_zret hx hb hr hlk hE hW () rfl trivial rfl (by decide) dX3_statement_73
          · have hf := o_f hf c51
            refine lv_aload_n hx hb dX3_statement_61 rfl (lv_at hl 0 rfl) ?_
            refine lv_iconst (v := 2) hx hb dX3_statement_62 (by decide) ?_
            refine lv_iconst (v := 0) hx hb dX3_statement_63 (by decide) ?_
            refine lv_bipush (v := 99) hx hb dX3_statement_64 (by decide) ?_
            obtain ⟨r52, M53, hc53, hf⟩ := o_b2s hf
            have hp53 : List.Perm [mW g adM kM tM M50] ([mW g adM kM tM M50] ++ []) := b_perm [0] [] 1 rfl rfl rfl rfl
            refine b_call0 ⟨rfl, rfl⟩ (va_runV (As := [.int 2, .int 0, .int 99]) (rest := []) ⟨hx, hb, hml, hown, hts⟩ (m_X3_number l D g H.size adM kM tM fu M50 2 0 99 r52 M53 hc53) (cwV 3 hts (lw_V q1765 q1767 qs53 q79 q1768) rfl rfl rfl (by decide +kernel) ⟨Nat.le_of_ble_eq_true rfl, Nat.le_of_ble_eq_true rfl⟩) (b_preV (pp := 0) (q := 0) hW hp53 rfl mW_0 rfl) rfl rfl hl.1 rfl (lv_room (Nat.le_of_ble_eq_true rfl)) dX3_statement_66 ⟨Nat.le_of_ble_eq_true rfl, Nat.le_of_ble_eq_true rfl⟩) hW hp53 (fun _ _ H locs hW => ?_)
            have hW : bW D g A s H locs [mW g adM kM tM M53] := hW
            refine lv_if_ne (tgt := 74) hx hb dX3_statement_69 (by decide) (fun c54 => ?_) (fun c54 => ?_)
            · have hf := o_f hf c54
              refine lv_aload_n hx hb dX3_statement_74 rfl (lv_at hl 0 rfl) ?_
              refine lv_aload_n hx hb dX3_statement_75 rfl (lv_at hl 0 rfl) ?_
              refine b_get hx hb hts in_X3 hown hW 0 0 3 23 rfl mW_0 rfl (by decide) ⟨rfl, rfl, rfl⟩ (hts _ q1482) mW_g23 dX3_statement_76 ?_
              refine lv_iconst (v := 0) hx hb dX3_statement_79 (by decide) ?_
              refine b_iald hx hb hW 0 31 rfl mW_31 (by decide) dX3_statement_80 ?_
              refine lv_aload_n hx hb dX3_statement_81 rfl (lv_at hl 0 rfl) ?_
              refine b_get hx hb hts in_X3 hown hW 0 0 3 23 rfl mW_0 rfl (by decide) ⟨rfl, rfl, rfl⟩ (hts _ q1482) mW_g23 dX3_statement_82 ?_
              refine lv_iconst (v := 1) hx hb dX3_statement_85 (by decide) ?_
              refine b_iald hx hb hW 0 31 rfl mW_31 (by decide) dX3_statement_86 ?_
              refine lv_aload_n hx hb dX3_statement_87 rfl (lv_at hl 0 rfl) ?_
              refine b_get hx hb hts in_X3 hown hW 0 0 3 23 rfl mW_0 rfl (by decide) ⟨rfl, rfl, rfl⟩ (hts _ q1482) mW_g23 dX3_statement_88 ?_
              refine lv_iconst (v := 2) hx hb dX3_statement_91 (by decide) ?_
              refine b_iald hx hb hW 0 31 rfl mW_31 (by decide) dX3_statement_92 ?_
              obtain ⟨r55, M56, hc56, hf⟩ := o_b2s hf
              have hp56 : List.Perm [mW g adM kM tM M53] ([mW g adM kM tM M53] ++ []) := b_perm [0] [] 1 rfl rfl rfl rfl
              refine b_call0 ⟨rfl, rfl⟩ (va_runV (As := [.int (M53.1 31 (ix 0)), .int (M53.1 31 (ix 1)), .int (M53.1 31 (ix 2))]) (rest := []) ⟨hx, hb, hml, hown, hts⟩ (m_X3_goer l D g H.size adM kM tM M53 (M53.1 31 (ix 0)) (M53.1 31 (ix 1)) (M53.1 31 (ix 2)) r55 M56 hc56) (cwV 3 hts (lw_V q1775 q1643 q1644 q79 q1645) rfl rfl rfl (by decide +kernel) ⟨Nat.le_of_ble_eq_true rfl, Nat.le_of_ble_eq_true rfl⟩) (b_preV (pp := 0) (q := 0) hW hp56 rfl mW_0 rfl) rfl rfl hl.1 rfl (lv_room (Nat.le_of_ble_eq_true rfl)) dX3_statement_93 ⟨Nat.le_of_ble_eq_true rfl, Nat.le_of_ble_eq_true rfl⟩) hW hp56 (fun _ _ H locs hW => ?_)
              have hW : bW D g A s H locs [mW g adM kM tM M56] := hW
              refine lv_pop hx hb dX3_statement_96 rfl ?_
              refine lv_iconst (v := 1) hx hb dX3_statement_97 (by decide) ?_
              cases hf
              exact b_zret hx hb hr hlk hE hW () rfl trivial rfl (by decide) dX3_statement_98
            · have hf := o_t hf c54
              refine lv_iconst (v := 0) hx hb dX3_statement_72 (by decide) ?_
              cases hf
              exact b_zret hx hb hr hlk hE hW () rfl trivial rfl (by decide) dX3_statement_73
  · have hf := o_f hf c2
    refine lv_aload_n hx hb dX3_statement_9 rfl (lv_at hl 0 rfl) ?_
    refine b_get hx hb hts in_X3 hown hW 0 0 3 9 rfl mW_0 rfl (by decide) ⟨rfl, rfl, rfl⟩ (hts _ q1468) mW_g9 dX3_statement_10 ?_
    refine lv_bipush (v := 6) hx hb dX3_statement_13 (by decide) ?_
    refine lv_icmp_ge (tgt := 23) hx hb dX3_statement_15 (by decide) (fun c57 => ?_) (fun c57 => ?_)
    · have hf := o_t hf c57
      refine lv_aload_n hx hb dX3_statement_23 rfl (lv_at hl 0 rfl) ?_
      refine va_ldcS hx hb hown (b_kld hW (own := "EverybodyHasTheBookModel") (idx := 206) (tx := "goer") (i := 2) 9 rfl) dX3_statement_24 ?_
      obtain ⟨r58, hc58, hf⟩ := o_b1s hf
      have hp58 : List.Perm ([mW g adM kM tM M] : List va_W) ([mW g adM kM tM M] ++ []) := b_perm [0] [] 1 rfl rfl rfl rfl
      refine b_call0 ⟨rfl, rfl⟩ (va_runV (As := [.ref (g (100 + 2))]) (rest := []) ⟨hx, hb, hml, hown, hts⟩ (m_X3_isWord l D g H.size adM kM tM fu M 2 r58 (by decide) hc58) (cwV 1 hts (lw_V q1734 q1736 qs50 q79 q1737) rfl rfl rfl (by decide +kernel) ⟨Nat.le_of_ble_eq_true rfl, Nat.le_of_ble_eq_true rfl⟩) (b_preV (pp := 0) (q := 0) hW hp58 rfl mW_0 rfl) rfl rfl hl.1 rfl (lv_room (Nat.le_of_ble_eq_true rfl)) dX3_statement_26 ⟨Nat.le_of_ble_eq_true rfl, Nat.le_of_ble_eq_true rfl⟩) hW hp58 (fun _ _ H locs hW => ?_)
      have hW : bW D g A s H locs [mW g adM kM tM M] := hW
      refine lv_if_eq (tgt := 99) hx hb dX3_statement_29 (by decide) (fun c59 => ?_) (fun c59 => ?_)
      · have hf := o_t hf c59
        refine lv_aload_n hx hb dX3_statement_99 rfl (lv_at hl 0 rfl) ?_
        refine va_ldcS hx hb hown (b_kld hW (own := "EverybodyHasTheBookModel") (idx := 210) (tx := "letter") (i := 3) 10 rfl) dX3_statement_100 ?_
        obtain ⟨r60, hc60, hf⟩ := o_b1s hf
        have hp60 : List.Perm ([mW g adM kM tM M] : List va_W) ([mW g adM kM tM M] ++ []) := b_perm [0] [] 1 rfl rfl rfl rfl
        refine b_call0 ⟨rfl, rfl⟩ (va_runV (As := [.ref (g (100 + 3))]) (rest := []) ⟨hx, hb, hml, hown, hts⟩ (m_X3_isWord l D g H.size adM kM tM fu M 3 r60 (by decide) hc60) (cwV 1 hts (lw_V q1734 q1736 qs50 q79 q1737) rfl rfl rfl (by decide +kernel) ⟨Nat.le_of_ble_eq_true rfl, Nat.le_of_ble_eq_true rfl⟩) (b_preV (pp := 0) (q := 0) hW hp60 rfl mW_0 rfl) rfl rfl hl.1 rfl (lv_room (Nat.le_of_ble_eq_true rfl)) dX3_statement_102 ⟨Nat.le_of_ble_eq_true rfl, Nat.le_of_ble_eq_true rfl⟩) hW hp60 (fun _ _ H locs hW => ?_)
        have hW : bW D g A s H locs [mW g adM kM tM M] := hW
        refine lv_if_eq (tgt := 113) hx hb dX3_statement_105 (by decide) (fun c61 => ?_) (fun c61 => ?_)
        · have hf := o_t hf c61
          refine lv_aload_n hx hb dX3_statement_113 rfl (lv_at hl 0 rfl) ?_
          refine va_ldcS hx hb hown (b_kld hW (own := "EverybodyHasTheBookModel") (idx := 215) (tx := "write") (i := 4) 11 rfl) dX3_statement_114 ?_
          obtain ⟨r62, hc62, hf⟩ := o_b1s hf
          have hp62 : List.Perm ([mW g adM kM tM M] : List va_W) ([mW g adM kM tM M] ++ []) := b_perm [0] [] 1 rfl rfl rfl rfl
          refine b_call0 ⟨rfl, rfl⟩ (va_runV (As := [.ref (g (100 + 4))]) (rest := []) ⟨hx, hb, hml, hown, hts⟩ (m_X3_isWord l D g H.size adM kM tM fu M 4 r62 (by decide) hc62) (cwV 1 hts (lw_V q1734 q1736 qs50 q79 q1737) rfl rfl rfl (by decide +kernel) ⟨Nat.le_of_ble_eq_true rfl, Nat.le_of_ble_eq_true rfl⟩) (b_preV (pp := 0) (q := 0) hW hp62 rfl mW_0 rfl) rfl rfl hl.1 rfl (lv_room (Nat.le_of_ble_eq_true rfl)) dX3_statement_116 ⟨Nat.le_of_ble_eq_true rfl, Nat.le_of_ble_eq_true rfl⟩) hW hp62 (fun _ _ H locs hW => ?_)
          have hW : bW D g A s H locs [mW g adM kM tM M] := hW
          refine lv_if_eq (tgt := 127) hx hb dX3_statement_119 (by decide) (fun c63 => ?_) (fun c63 => ?_)
          · have hf := o_t hf c63
            refine lv_aload_n hx hb dX3_statement_127 rfl (lv_at hl 0 rfl) ?_
            refine va_ldcS hx hb hown (b_kld hW (own := "EverybodyHasTheBookModel") (idx := 220) (tx := "age") (i := 5) 12 rfl) dX3_statement_128 ?_
            obtain ⟨r64, hc64, hf⟩ := o_b1s hf
            have hp64 : List.Perm ([mW g adM kM tM M] : List va_W) ([mW g adM kM tM M] ++ []) := b_perm [0] [] 1 rfl rfl rfl rfl
            refine b_call0 ⟨rfl, rfl⟩ (va_runV (As := [.ref (g (100 + 5))]) (rest := []) ⟨hx, hb, hml, hown, hts⟩ (m_X3_isWord l D g H.size adM kM tM fu M 5 r64 (by decide) hc64) (cwV 1 hts (lw_V q1734 q1736 qs50 q79 q1737) rfl rfl rfl (by decide +kernel) ⟨Nat.le_of_ble_eq_true rfl, Nat.le_of_ble_eq_true rfl⟩) (b_preV (pp := 0) (q := 0) hW hp64 rfl mW_0 rfl) rfl rfl hl.1 rfl (lv_room (Nat.le_of_ble_eq_true rfl)) dX3_statement_130 ⟨Nat.le_of_ble_eq_true rfl, Nat.le_of_ble_eq_true rfl⟩) hW hp64 (fun _ _ H locs hW => ?_)
            have hW : bW D g A s H locs [mW g adM kM tM M] := hW
            refine lv_if_ne (tgt := 141) hx hb dX3_statement_133 (by decide) (fun c65 => ?_) (fun c65 => ?_)
            · have hf := o_f hf c65
              refine lv_aload_n hx hb dX3_statement_141 rfl (lv_at hl 0 rfl) ?_
              refine lv_iconst (v := 0) hx hb dX3_statement_142 (by decide) ?_
              refine lv_bipush (v := 99) hx hb dX3_statement_143 (by decide) ?_
              obtain ⟨r66, M67, hc67, hf⟩ := o_b2s hf
              have hp67 : List.Perm [mW g adM kM tM M] ([mW g adM kM tM M] ++ []) := b_perm [0] [] 1 rfl rfl rfl rfl
              refine b_call0 ⟨rfl, rfl⟩ (va_runV (As := [.int 0, .int 99]) (rest := []) ⟨hx, hb, hml, hown, hts⟩ (m_X3_tells l D g H.size adM kM tM fu M 0 99 r66 M67 hc67) (cwV 2 hts (lw_V q1761 q1763 qs52 q79 q1764) rfl rfl rfl (by decide +kernel) ⟨Nat.le_of_ble_eq_true rfl, Nat.le_of_ble_eq_true rfl⟩) (b_preV (pp := 0) (q := 0) hW hp67 rfl mW_0 rfl) rfl rfl hl.1 rfl (lv_room (Nat.le_of_ble_eq_true rfl)) dX3_statement_145 ⟨Nat.le_of_ble_eq_true rfl, Nat.le_of_ble_eq_true rfl⟩) hW hp67 (fun _ _ H locs hW => ?_)
              have hW : bW D g A s H locs [mW g adM kM tM M67] := hW
              refine lv_if_ne (tgt := 153) hx hb dX3_statement_148 (by decide) (fun c68 => ?_) (fun c68 => ?_)
              · have hf := o_f hf c68
                refine lv_aload_n hx hb dX3_statement_153 rfl (lv_at hl 0 rfl) ?_
                refine lv_aload_n hx hb dX3_statement_154 rfl (lv_at hl 0 rfl) ?_
                refine b_get hx hb hts in_X3 hown hW 0 0 3 23 rfl mW_0 rfl (by decide) ⟨rfl, rfl, rfl⟩ (hts _ q1482) mW_g23 dX3_statement_155 ?_
                refine lv_iconst (v := 0) hx hb dX3_statement_158 (by decide) ?_
                refine b_iald hx hb hW 0 31 rfl mW_31 (by decide) dX3_statement_159 ?_
                obtain ⟨v69, ev69, hf⟩ := o_ls hf
                refine b_topi ev69 ?_
                obtain ⟨M70, eM70, hf⟩ := o_ls hf
                refine b_put hx hb hts in_X3 tyX3 tyX3_ok nmX3 hown hW 0 0 3 13 rfl mW_0 (mW_p13 eM70) rfl rfl (by decide) ⟨rfl, rfl, rfl⟩ (hts _ q1472) rfl (ty := .int) rfl rfl rfl (by rw [mW_l]; decide) dX3_statement_160 (fun H locs hW => ?_)
                have hW : bW D g A s H locs [mW g adM kM tM M70] := hW
                refine lv_iconst (v := 1) hx hb dX3_statement_163 (by decide) ?_
                cases hf
                exact b_zret hx hb hr hlk hE hW () rfl trivial rfl (by decide) dX3_statement_164
              · have hf := o_t hf c68
                refine lv_iconst (v := 0) hx hb dX3_statement_151 (by decide) ?_
                cases hf
                exact b_zret hx hb hr hlk hE hW () rfl trivial rfl (by decide) dX3_statement_152
            · have hf := o_t hf c65
              refine lv_aload_n hx hb dX3_statement_136 rfl (lv_at hl 0 rfl) ?_
              obtain ⟨r71, M72, hc72, hf⟩ := o_b2s hf
              have hp72 : List.Perm [mW g adM kM tM M] ([mW g adM kM tM M] ++ []) := b_perm [0] [] 1 rfl rfl rfl rfl
              refine b_call0 ⟨rfl, rfl⟩ (va_runV (As := []) (rest := []) ⟨hx, hb, hml, hown, hts⟩ (m_X3_wrong l D g H.size adM kM tM M r71 M72 hc72) (cwV 0 hts (lw_V q1769 q1771 qs54 q79 q1772) rfl rfl rfl (by decide +kernel) ⟨Nat.le_of_ble_eq_true rfl, Nat.le_of_ble_eq_true rfl⟩) (b_preV (pp := 0) (q := 0) hW hp72 rfl mW_0 rfl) rfl rfl hl.1 rfl (lv_room (Nat.le_of_ble_eq_true rfl)) dX3_statement_137 ⟨Nat.le_of_ble_eq_true rfl, Nat.le_of_ble_eq_true rfl⟩) hW hp72 (fun _ _ H locs hW => ?_)
              have hW : bW D g A s H locs [mW g adM kM tM M72] := hW
              obtain ⟨h73, hf⟩ := o_cs hf
              cases hf
              exact b_zret hx hb hr hlk hE hW () rfl trivial rfl h73 dX3_statement_140
          · have hf := o_f hf c63
            refine lv_aload_n hx hb dX3_statement_122 rfl (lv_at hl 0 rfl) ?_
            obtain ⟨r74, M75, hc75, hf⟩ := o_b2s hf
            have hp75 : List.Perm [mW g adM kM tM M] ([mW g adM kM tM M] ++ []) := b_perm [0] [] 1 rfl rfl rfl rfl
            refine b_call0 ⟨rfl, rfl⟩ (va_runV (As := []) (rest := []) ⟨hx, hb, hml, hown, hts⟩ (m_X3_writeTold l D g H.size adM kM tM fu M r74 M75 hc75) (cwV 0 hts (lw_V q1782 q1784 qs56 q79 q1785) rfl rfl rfl (by decide +kernel) ⟨Nat.le_of_ble_eq_true rfl, Nat.le_of_ble_eq_true rfl⟩) (b_preV (pp := 0) (q := 0) hW hp75 rfl mW_0 rfl) rfl rfl hl.1 rfl (lv_room (Nat.le_of_ble_eq_true rfl)) dX3_statement_123 ⟨Nat.le_of_ble_eq_true rfl, Nat.le_of_ble_eq_true rfl⟩) hW hp75 (fun _ _ H locs hW => ?_)
            have hW : bW D g A s H locs [mW g adM kM tM M75] := hW
            obtain ⟨h76, hf⟩ := o_cs hf
            cases hf
            exact b_zret hx hb hr hlk hE hW () rfl trivial rfl h76 dX3_statement_126
        · have hf := o_f hf c61
          refine lv_aload_n hx hb dX3_statement_108 rfl (lv_at hl 0 rfl) ?_
          obtain ⟨r77, M78, hc78, hf⟩ := o_b2s hf
          have hp78 : List.Perm [mW g adM kM tM M] ([mW g adM kM tM M] ++ []) := b_perm [0] [] 1 rfl rfl rfl rfl
          refine b_call0 ⟨rfl, rfl⟩ (va_runV (As := []) (rest := []) ⟨hx, hb, hml, hown, hts⟩ (m_X3_letterTold l D g H.size adM kM tM fu M r77 M78 hc78) (cwV 0 hts (lw_V q1777 q1779 qs55 q79 q1780) rfl rfl rfl (by decide +kernel) ⟨Nat.le_of_ble_eq_true rfl, Nat.le_of_ble_eq_true rfl⟩) (b_preV (pp := 0) (q := 0) hW hp78 rfl mW_0 rfl) rfl rfl hl.1 rfl (lv_room (Nat.le_of_ble_eq_true rfl)) dX3_statement_109 ⟨Nat.le_of_ble_eq_true rfl, Nat.le_of_ble_eq_true rfl⟩) hW hp78 (fun _ _ H locs hW => ?_)
          have hW : bW D g A s H locs [mW g adM kM tM M78] := hW
          obtain ⟨h79, hf⟩ := o_cs hf
          cases hf
          exact b_zret hx hb hr hlk hE hW () rfl trivial rfl h79 dX3_statement_112
      · have hf := o_f hf c59
        refine lv_aload_n hx hb dX3_statement_32 rfl (lv_at hl 0 rfl) ?_
        refine b_get hx hb hts in_X3 hown hW 0 0 3 11 rfl mW_0 rfl (by decide) ⟨rfl, rfl, rfl⟩ (hts _ q1470) mW_g11 dX3_statement_33 ?_
        refine lv_bipush (v := 6) hx hb dX3_statement_36 (by decide) ?_
        refine lv_icmp_ge (tgt := 99) hx hb dX3_statement_38 (by decide) (fun c80 => ?_) (fun c80 => ?_)
        · have hf := o_t hf c80
          refine lv_aload_n hx hb dX3_statement_99 rfl (lv_at hl 0 rfl) ?_
          refine va_ldcS hx hb hown (b_kld hW (own := "EverybodyHasTheBookModel") (idx := 210) (tx := "letter") (i := 3) 10 rfl) dX3_statement_100 ?_
          obtain ⟨r81, hc81, hf⟩ := o_b1s hf
          have hp81 : List.Perm ([mW g adM kM tM M] : List va_W) ([mW g adM kM tM M] ++ []) := b_perm [0] [] 1 rfl rfl rfl rfl
          refine b_call0 ⟨rfl, rfl⟩ (va_runV (As := [.ref (g (100 + 3))]) (rest := []) ⟨hx, hb, hml, hown, hts⟩ (m_X3_isWord l D g H.size adM kM tM fu M 3 r81 (by decide) hc81) (cwV 1 hts (lw_V q1734 q1736 qs50 q79 q1737) rfl rfl rfl (by decide +kernel) ⟨Nat.le_of_ble_eq_true rfl, Nat.le_of_ble_eq_true rfl⟩) (b_preV (pp := 0) (q := 0) hW hp81 rfl mW_0 rfl) rfl rfl hl.1 rfl (lv_room (Nat.le_of_ble_eq_true rfl)) dX3_statement_102 ⟨Nat.le_of_ble_eq_true rfl, Nat.le_of_ble_eq_true rfl⟩) hW hp81 (fun _ _ H locs hW => ?_)
          have hW : bW D g A s H locs [mW g adM kM tM M] := hW
          refine lv_if_eq (tgt := 113) hx hb dX3_statement_105 (by decide) (fun c82 => ?_) (fun c82 => ?_)
          · have hf := o_t hf c82
            refine lv_aload_n hx hb dX3_statement_113 rfl (lv_at hl 0 rfl) ?_
            refine va_ldcS hx hb hown (b_kld hW (own := "EverybodyHasTheBookModel") (idx := 215) (tx := "write") (i := 4) 11 rfl) dX3_statement_114 ?_
            obtain ⟨r83, hc83, hf⟩ := o_b1s hf
            have hp83 : List.Perm ([mW g adM kM tM M] : List va_W) ([mW g adM kM tM M] ++ []) := b_perm [0] [] 1 rfl rfl rfl rfl
            refine b_call0 ⟨rfl, rfl⟩ (va_runV (As := [.ref (g (100 + 4))]) (rest := []) ⟨hx, hb, hml, hown, hts⟩ (m_X3_isWord l D g H.size adM kM tM fu M 4 r83 (by decide) hc83) (cwV 1 hts (lw_V q1734 q1736 qs50 q79 q1737) rfl rfl rfl (by decide +kernel) ⟨Nat.le_of_ble_eq_true rfl, Nat.le_of_ble_eq_true rfl⟩) (b_preV (pp := 0) (q := 0) hW hp83 rfl mW_0 rfl) rfl rfl hl.1 rfl (lv_room (Nat.le_of_ble_eq_true rfl)) dX3_statement_116 ⟨Nat.le_of_ble_eq_true rfl, Nat.le_of_ble_eq_true rfl⟩) hW hp83 (fun _ _ H locs hW => ?_)
            have hW : bW D g A s H locs [mW g adM kM tM M] := hW
            refine lv_if_eq (tgt := 127) hx hb dX3_statement_119 (by decide) (fun c84 => ?_) (fun c84 => ?_)
            · have hf := o_t hf c84
              refine lv_aload_n hx hb dX3_statement_127 rfl (lv_at hl 0 rfl) ?_
              refine va_ldcS hx hb hown (b_kld hW (own := "EverybodyHasTheBookModel") (idx := 220) (tx := "age") (i := 5) 12 rfl) dX3_statement_128 ?_
              obtain ⟨r85, hc85, hf⟩ := o_b1s hf
              have hp85 : List.Perm ([mW g adM kM tM M] : List va_W) ([mW g adM kM tM M] ++ []) := b_perm [0] [] 1 rfl rfl rfl rfl
              refine b_call0 ⟨rfl, rfl⟩ (va_runV (As := [.ref (g (100 + 5))]) (rest := []) ⟨hx, hb, hml, hown, hts⟩ (m_X3_isWord l D g H.size adM kM tM fu M 5 r85 (by decide) hc85) (cwV 1 hts (lw_V q1734 q1736 qs50 q79 q1737) rfl rfl rfl (by decide +kernel) ⟨Nat.le_of_ble_eq_true rfl, Nat.le_of_ble_eq_true rfl⟩) (b_preV (pp := 0) (q := 0) hW hp85 rfl mW_0 rfl) rfl rfl hl.1 rfl (lv_room (Nat.le_of_ble_eq_true rfl)) dX3_statement_130 ⟨Nat.le_of_ble_eq_true rfl, Nat.le_of_ble_eq_true rfl⟩) hW hp85 (fun _ _ H locs hW => ?_)
              have hW : bW D g A s H locs [mW g adM kM tM M] := hW
              refine lv_if_ne (tgt := 141) hx hb dX3_statement_133 (by decide) (fun c86 => ?_) (fun c86 => ?_)
              · have hf := o_f hf c86
                refine lv_aload_n hx hb dX3_statement_141 rfl (lv_at hl 0 rfl) ?_
                refine lv_iconst (v := 0) hx hb dX3_statement_142 (by decide) ?_
                refine lv_bipush (v := 99) hx hb dX3_statement_143 (by decide) ?_
                obtain ⟨r87, M88, hc88, hf⟩ := o_b2s hf
                have hp88 : List.Perm [mW g adM kM tM M] ([mW g adM kM tM M] ++ []) := b_perm [0] [] 1 rfl rfl rfl rfl
                refine b_call0 ⟨rfl, rfl⟩ (va_runV (As := [.int 0, .int 99]) (rest := []) ⟨hx, hb, hml, hown, hts⟩ (m_X3_tells l D g H.size adM kM tM fu M 0 99 r87 M88 hc88) (cwV 2 hts (lw_V q1761 q1763 qs52 q79 q1764) rfl rfl rfl (by decide +kernel) ⟨Nat.le_of_ble_eq_true rfl, Nat.le_of_ble_eq_true rfl⟩) (b_preV (pp := 0) (q := 0) hW hp88 rfl mW_0 rfl) rfl rfl hl.1 rfl (lv_room (Nat.le_of_ble_eq_true rfl)) dX3_statement_145 ⟨Nat.le_of_ble_eq_true rfl, Nat.le_of_ble_eq_true rfl⟩) hW hp88 (fun _ _ H locs hW => ?_)
                have hW : bW D g A s H locs [mW g adM kM tM M88] := hW
                refine lv_if_ne (tgt := 153) hx hb dX3_statement_148 (by decide) (fun c89 => ?_) (fun c89 => ?_)
                · have hf := o_f hf c89
                  refine lv_aload_n hx hb dX3_statement_153 rfl (lv_at hl 0 rfl) ?_
                  refine lv_aload_n hx hb dX3_statement_154 rfl (lv_at hl 0 rfl) ?_
                  refine b_get hx hb hts in_X3 hown hW 0 0 3 23 rfl mW_0 rfl (by decide) ⟨rfl, rfl, rfl⟩ (hts _ q1482) mW_g23 dX3_statement_155 ?_
                  refine lv_iconst (v := 0) hx hb dX3_statement_158 (by decide) ?_
                  refine b_iald hx hb hW 0 31 rfl mW_31 (by decide) dX3_statement_159 ?_
                  obtain ⟨v90, ev90, hf⟩ := o_ls hf
                  refine b_topi ev90 ?_
                  obtain ⟨M91, eM91, hf⟩ := o_ls hf
                  refine b_put hx hb hts in_X3 tyX3 tyX3_ok nmX3 hown hW 0 0 3 13 rfl mW_0 (mW_p13 eM91) rfl rfl (by decide) ⟨rfl, rfl, rfl⟩ (hts _ q1472) rfl (ty := .int) rfl rfl rfl (by rw [mW_l]; decide) dX3_statement_160 (fun H locs hW => ?_)
                  have hW : bW D g A s H locs [mW g adM kM tM M91] := hW
                  refine lv_iconst (v := 1) hx hb dX3_statement_163 (by decide) ?_
                  cases hf
                  exact b_zret hx hb hr hlk hE hW () rfl trivial rfl (by decide) dX3_statement_164
                · have hf := o_t hf c89
                  refine lv_iconst (v := 0) hx hb dX3_statement_151 (by decide) ?_
                  cases hf
                  exact b_zret hx hb hr hlk hE hW () rfl trivial rfl (by decide) dX3_statement_152
              · have hf := o_t hf c86
                refine lv_aload_n hx hb dX3_statement_136 rfl (lv_at hl 0 rfl) ?_
                obtain ⟨r92, M93, hc93, hf⟩ := o_b2s hf
                have hp93 : List.Perm [mW g adM kM tM M] ([mW g adM kM tM M] ++ []) := b_perm [0] [] 1 rfl rfl rfl rfl
                refine b_call0 ⟨rfl, rfl⟩ (va_runV (As := []) (rest := []) ⟨hx, hb, hml, hown, hts⟩ (m_X3_wrong l D g H.size adM kM tM M r92 M93 hc93) (cwV 0 hts (lw_V q1769 q1771 qs54 q79 q1772) rfl rfl rfl (by decide +kernel) ⟨Nat.le_of_ble_eq_true rfl, Nat.le_of_ble_eq_true rfl⟩) (b_preV (pp := 0) (q := 0) hW hp93 rfl mW_0 rfl) rfl rfl hl.1 rfl (lv_room (Nat.le_of_ble_eq_true rfl)) dX3_statement_137 ⟨Nat.le_of_ble_eq_true rfl, Nat.le_of_ble_eq_true rfl⟩) hW hp93 (fun _ _ H locs hW => ?_)
                have hW : bW D g A s H locs [mW g adM kM tM M93] := hW
                obtain ⟨h94, hf⟩ := o_cs hf
                cases hf
                exact b_zret hx hb hr hlk hE hW () rfl trivial rfl h94 dX3_statement_140
            · have hf := o_f hf c84
              refine lv_aload_n hx hb dX3_statement_122 rfl (lv_at hl 0 rfl) ?_
              obtain ⟨r95, M96, hc96, hf⟩ := o_b2s hf
              have hp96 : List.Perm [mW g adM kM tM M] ([mW g adM kM tM M] ++ []) := b_perm [0] [] 1 rfl rfl rfl rfl
              refine b_call0 ⟨rfl, rfl⟩ (va_runV (As := []) (rest := []) ⟨hx, hb, hml, hown, hts⟩ (m_X3_writeTold l D g H.size adM kM tM fu M r95 M96 hc96) (cwV 0 hts (lw_V q1782 q1784 qs56 q79 q1785) rfl rfl rfl (by decide +kernel) ⟨Nat.le_of_ble_eq_true rfl, Nat.le_of_ble_eq_true rfl⟩) (b_preV (pp := 0) (q := 0) hW hp96 rfl mW_0 rfl) rfl rfl hl.1 rfl (lv_room (Nat.le_of_ble_eq_true rfl)) dX3_statement_123 ⟨Nat.le_of_ble_eq_true rfl, Nat.le_of_ble_eq_true rfl⟩) hW hp96 (fun _ _ H locs hW => ?_)
              have hW : bW D g A s H locs [mW g adM kM tM M96] := hW
              obtain ⟨h97, hf⟩ := o_cs hf
              cases hf
              exact b_zret hx hb hr hlk hE hW () rfl trivial rfl h97 dX3_statement_126
          · have hf := o_f hf c82
            refine lv_aload_n hx hb dX3_statement_108 rfl (lv_at hl 0 rfl) ?_
            obtain ⟨r98, M99, hc99, hf⟩ := o_b2s hf
            have hp99 : List.Perm [mW g adM kM tM M] ([mW g adM kM tM M] ++ []) := b_perm [0] [] 1 rfl rfl rfl rfl
            refine b_call0 ⟨rfl, rfl⟩ (va_runV (As := []) (rest := []) ⟨hx, hb, hml, hown, hts⟩ (m_X3_letterTold l D g H.size adM kM tM fu M r98 M99 hc99) (cwV 0 hts (lw_V q1777 q1779 qs55 q79 q1780) rfl rfl rfl (by decide +kernel) ⟨Nat.le_of_ble_eq_true rfl, Nat.le_of_ble_eq_true rfl⟩) (b_preV (pp := 0) (q := 0) hW hp99 rfl mW_0 rfl) rfl rfl hl.1 rfl (lv_room (Nat.le_of_ble_eq_true rfl)) dX3_statement_109 ⟨Nat.le_of_ble_eq_true rfl, Nat.le_of_ble_eq_true rfl⟩) hW hp99 (fun _ _ H locs hW => ?_)
            have hW : bW D g A s H locs [mW g adM kM tM M99] := hW
            obtain ⟨h100, hf⟩ := o_cs hf
            cases hf
            exact b_zret hx hb hr hlk hE hW () rfl trivial rfl h100 dX3_statement_112
        · have hf := o_f hf c80
          refine lv_aload_n hx hb dX3_statement_41 rfl (lv_at hl 0 rfl) ?_
          refine lv_iconst (v := 0) hx hb dX3_statement_42 (by decide) ?_
          refine lv_iconst (v := 5) hx hb dX3_statement_43 (by decide) ?_
          obtain ⟨r101, M102, hc102, hf⟩ := o_b2s hf
          have hp102 : List.Perm [mW g adM kM tM M] ([mW g adM kM tM M] ++ []) := b_perm [0] [] 1 rfl rfl rfl rfl
          refine b_call0 ⟨rfl, rfl⟩ (va_runV (As := [.int 0, .int 5]) (rest := []) ⟨hx, hb, hml, hown, hts⟩ (m_X3_tells l D g H.size adM kM tM fu M 0 5 r101 M102 hc102) (cwV 2 hts (lw_V q1761 q1763 qs52 q79 q1764) rfl rfl rfl (by decide +kernel) ⟨Nat.le_of_ble_eq_true rfl, Nat.le_of_ble_eq_true rfl⟩) (b_preV (pp := 0) (q := 0) hW hp102 rfl mW_0 rfl) rfl rfl hl.1 rfl (lv_room (Nat.le_of_ble_eq_true rfl)) dX3_statement_44 ⟨Nat.le_of_ble_eq_true rfl, Nat.le_of_ble_eq_true rfl⟩) hW hp102 (fun _ _ H locs hW => ?_)
          have hW : bW D g A s H locs [mW g adM kM tM M102] := hW
          refine lv_if_eq (tgt := 72) hx hb dX3_statement_47 (by decide) (fun c103 => ?_) (fun c103 => ?_)
          · have hf := o_t hf c103
            refine lv_iconst (v := 0) hx hb dX3_statement_72 (by decide) ?_
            cases hf
            exact b_zret hx hb hr hlk hE hW () rfl trivial rfl (by decide) dX3_statement_73
          · have hf := o_f hf c103
            refine lv_aload_n hx hb dX3_statement_50 rfl (lv_at hl 0 rfl) ?_
            refine lv_iconst (v := 1) hx hb dX3_statement_51 (by decide) ?_
            refine lv_iconst (v := 1) hx hb dX3_statement_52 (by decide) ?_
            refine lv_bipush (v := 30) hx hb dX3_statement_53 (by decide) ?_
            obtain ⟨r104, M105, hc105, hf⟩ := o_b2s hf
            have hp105 : List.Perm [mW g adM kM tM M102] ([mW g adM kM tM M102] ++ []) := b_perm [0] [] 1 rfl rfl rfl rfl
            refine b_call0 ⟨rfl, rfl⟩ (va_runV (As := [.int 1, .int 1, .int 30]) (rest := []) ⟨hx, hb, hml, hown, hts⟩ (m_X3_number l D g H.size adM kM tM fu M102 1 1 30 r104 M105 hc105) (cwV 3 hts (lw_V q1765 q1767 qs53 q79 q1768) rfl rfl rfl (by decide +kernel) ⟨Nat.le_of_ble_eq_true rfl, Nat.le_of_ble_eq_true rfl⟩) (b_preV (pp := 0) (q := 0) hW hp105 rfl mW_0 rfl) rfl rfl hl.1 rfl (lv_room (Nat.le_of_ble_eq_true rfl)) dX3_statement_55 ⟨Nat.le_of_ble_eq_true rfl, Nat.le_of_ble_eq_true rfl⟩) hW hp105 (fun _ _ H locs hW => ?_)
            have hW : bW D g A s H locs [mW g adM kM tM M105] := hW
            refine lv_if_eq (tgt := 72) hx hb dX3_statement_58 (by decide) (fun c106 => ?_) (fun c106 => ?_)
            · have hf := o_t hf c106
              refine lv_iconst (v := 0) hx hb dX3_statement_72 (by decide) ?_
              cases hf
              exact b_zret hx hb hr hlk hE hW () rfl trivial rfl (by decide) dX3_statement_73
            · have hf := o_f hf c106
              refine lv_aload_n hx hb dX3_statement_61 rfl (lv_at hl 0 rfl) ?_
              refine lv_iconst (v := 2) hx hb dX3_statement_62 (by decide) ?_
              refine lv_iconst (v := 0) hx hb dX3_statement_63 (by decide) ?_
              refine lv_bipush (v := 99) hx hb dX3_statement_64 (by decide) ?_
              obtain ⟨r107, M108, hc108, hf⟩ := o_b2s hf
              have hp108 : List.Perm [mW g adM kM tM M105] ([mW g adM kM tM M105] ++ []) := b_perm [0] [] 1 rfl rfl rfl rfl
              refine b_call0 ⟨rfl, rfl⟩ (va_runV (As := [.int 2, .int 0, .int 99]) (rest := []) ⟨hx, hb, hml, hown, hts⟩ (m_X3_number l D g H.size adM kM tM fu M105 2 0 99 r107 M108 hc108) (cwV 3 hts (lw_V q1765 q1767 qs53 q79 q1768) rfl rfl rfl (by decide +kernel) ⟨Nat.le_of_ble_eq_true rfl, Nat.le_of_ble_eq_true rfl⟩) (b_preV (pp := 0) (q := 0) hW hp108 rfl mW_0 rfl) rfl rfl hl.1 rfl (lv_room (Nat.le_of_ble_eq_true rfl)) dX3_statement_66 ⟨Nat.le_of_ble_eq_true rfl, Nat.le_of_ble_eq_true rfl⟩) hW hp108 (fun _ _ H locs hW => ?_)
              have hW : bW D g A s H locs [mW g adM kM tM M108] := hW
              refine lv_if_ne (tgt := 74) hx hb dX3_statement_69 (by decide) (fun c109 => ?_) (fun c109 => ?_)
              · have hf := o_f hf c109
                refine lv_aload_n hx hb dX3_statement_74 rfl (lv_at hl 0 rfl) ?_
                refine lv_aload_n hx hb dX3_statement_75 rfl (lv_at hl 0 rfl) ?_
                refine b_get hx hb hts in_X3 hown hW 0 0 3 23 rfl mW_0 rfl (by decide) ⟨rfl, rfl, rfl⟩ (hts _ q1482) mW_g23 dX3_statement_76 ?_
                refine lv_iconst (v := 0) hx hb dX3_statement_79 (by decide) ?_
                refine b_iald hx hb hW 0 31 rfl mW_31 (by decide) dX3_statement_80 ?_
                refine lv_aload_n hx hb dX3_statement_81 rfl (lv_at hl 0 rfl) ?_
                refine b_get hx hb hts in_X3 hown hW 0 0 3 23 rfl mW_0 rfl (by decide) ⟨rfl, rfl, rfl⟩ (hts _ q1482) mW_g23 dX3_statement_82 ?_
                refine lv_iconst (v := 1) hx hb dX3_statement_85 (by decide) ?_
                refine b_iald hx hb hW 0 31 rfl mW_31 (by decide) dX3_statement_86 ?_
                refine lv_aload_n hx hb dX3_statement_87 rfl (lv_at hl 0 rfl) ?_
                refine b_get hx hb hts in_X3 hown hW 0 0 3 23 rfl mW_0 rfl (by decide) ⟨rfl, rfl, rfl⟩ (hts _ q1482) mW_g23 dX3_statement_88 ?_
                refine lv_iconst (v := 2) hx hb dX3_statement_91 (by decide) ?_
                refine b_iald hx hb hW 0 31 rfl mW_31 (by decide) dX3_statement_92 ?_
                obtain ⟨r110, M111, hc111, hf⟩ := o_b2s hf
                have hp111 : List.Perm [mW g adM kM tM M108] ([mW g adM kM tM M108] ++ []) := b_perm [0] [] 1 rfl rfl rfl rfl
                refine b_call0 ⟨rfl, rfl⟩ (va_runV (As := [.int (M108.1 31 (ix 0)), .int (M108.1 31 (ix 1)), .int (M108.1 31 (ix 2))]) (rest := []) ⟨hx, hb, hml, hown, hts⟩ (m_X3_goer l D g H.size adM kM tM M108 (M108.1 31 (ix 0)) (M108.1 31 (ix 1)) (M108.1 31 (ix 2)) r110 M111 hc111) (cwV 3 hts (lw_V q1775 q1643 q1644 q79 q1645) rfl rfl rfl (by decide +kernel) ⟨Nat.le_of_ble_eq_true rfl, Nat.le_of_ble_eq_true rfl⟩) (b_preV (pp := 0) (q := 0) hW hp111 rfl mW_0 rfl) rfl rfl hl.1 rfl (lv_room (Nat.le_of_ble_eq_true rfl)) dX3_statement_93 ⟨Nat.le_of_ble_eq_true rfl, Nat.le_of_ble_eq_true rfl⟩) hW hp111 (fun _ _ H locs hW => ?_)
                have hW : bW D g A s H locs [mW g adM kM tM M111] := hW
                refine lv_pop hx hb dX3_statement_96 rfl ?_
                refine lv_iconst (v := 1) hx hb dX3_statement_97 (by decide) ?_
                cases hf
                exact b_zret hx hb hr hlk hE hW () rfl trivial rfl (by decide) dX3_statement_98
              · have hf := o_t hf c109
                refine lv_iconst (v := 0) hx hb dX3_statement_72 (by decide) ?_
                cases hf
                exact b_zret hx hb hr hlk hE hW () rfl trivial rfl (by decide) dX3_statement_73
    · have hf := o_f hf c57
      refine lv_aload_n hx hb dX3_statement_18 rfl (lv_at hl 0 rfl) ?_
      obtain ⟨r112, M113, hc113, hf⟩ := o_b2s hf
      have hp113 : List.Perm [mW g adM kM tM M] ([mW g adM kM tM M] ++ []) := b_perm [0] [] 1 rfl rfl rfl rfl
      refine b_call0 ⟨rfl, rfl⟩ (va_runV (As := []) (rest := []) ⟨hx, hb, hml, hown, hts⟩ (m_X3_innTold l D g H.size adM kM tM fu M r112 M113 hc113) (cwV 0 hts (lw_V q1757 q1759 qs51 q79 q1760) rfl rfl rfl (by decide +kernel) ⟨Nat.le_of_ble_eq_true rfl, Nat.le_of_ble_eq_true rfl⟩) (b_preV (pp := 0) (q := 0) hW hp113 rfl mW_0 rfl) rfl rfl hl.1 rfl (lv_room (Nat.le_of_ble_eq_true rfl)) dX3_statement_19 ⟨Nat.le_of_ble_eq_true rfl, Nat.le_of_ble_eq_true rfl⟩) hW hp113 (fun _ _ H locs hW => ?_)
      have hW : bW D g A s H locs [mW g adM kM tM M113] := hW
      obtain ⟨h114, hf⟩ := o_cs hf
      cases hf
      exact b_zret hx hb hr hlk hE hW () rfl trivial rfl h114 dX3_statement_22
def f_X3_readAll_L23 (fu : Nat) (rec7 : BC → Option (Int32 × BC)) (M8 : BC) : Option (Int32 × BC) :=
 (if (M8.1 0 7) = 0 then
 some (1, M8)
 else
 (if (M8.1 0 7) = 3 then
 o_b1 (f_X3_look fu M8) fun (M11 : BC) =>
 o_b2 (f_X3_statement fu M11) fun (r12 : Int32) (M13 : BC) =>
 (if r12 = 0 then
 some (0, M13)
 else
 o_lt ((M13.1 0 11) + 1) fun (v15 : Int32) =>
 o_lt (bI M13 0 (upd (M13.1 0) 11 v15)) fun (M16 : BC) =>
 rec7 M16)
 else
 o_b2 (f_X3_wrong M8) fun (r17 : Int32) (M18 : BC) =>
 o_ck (decide (r17 = 0) || decide (r17 = 1)) (some (r17, M18))))
def f_X3_readAll (fu : Nat) (M : BC) : Option (Int32 × BC) :=
 o_lt (bI M 0 (upd (M.1 0) 11 1)) fun (M1 : BC) =>
 o_lt (bI M1 0 (upd (M1.1 0) 6 0)) fun (M2 : BC) =>
 o_b1 (f_X3_look fu M2) fun (M3 : BC) =>
 o_b2 (f_X3_statement fu M3) fun (r4 : Int32) (M5 : BC) =>
 (if r4 = 0 then
 some (0, M5)
 else
 o_lp (f_X3_readAll_L23 fu) fu M5)
abbrev rm_X3_readAll : Room := { frames := 7, cells := 0, slots := 0, locals := 149 }
set_option maxHeartbeats 4000000 in
set_option maxRecDepth 100000 in
theorem m_X3_readAll (l : Launch) (D : va_G) (g : Nat → ClassId) (sz : Nat) (adM : Nat → Nat) (kM : Option Nat) (tM : Option Nat) (fu : Nat) (M : BC) (rO : Int32) (MO : BC) (hf : f_X3_readAll fu M = some (rO, MO)) : bMet (S := Unit) l yX3_readAll (ws_ yX3_readAll cX3_readAll 1 (some .boolean)) rm_X3_readAll D g sz [.ref (adM 0)] [mW g adM kM tM M] (fun _ => True) (fun _ => some (.int rO)) (fun _ => [mW g adM kM tM MO]) := by
  refine b_met (by decide) (Nat.le_of_ble_eq_true rfl) ?_
  intro p e s m args below meth c A Q ls hx hb hml hr hlk hown hname hts hE hl hW
  revert hW; generalize s.heap = H; intro hW
  have hl : lv_has ls 1 [(0, .ref (adM 0))] := hl
  rw [f_X3_readAll] at hf
  refine lv_aload_n hx hb dX3_readAll_0 rfl (lv_at hl 0 rfl) ?_
  refine lv_iconst (v := 1) hx hb dX3_readAll_1 (by decide) ?_
  obtain ⟨M1, eM1, hf⟩ := o_ls hf
  refine b_put hx hb hts in_X3 tyX3 tyX3_ok nmX3 hown hW 0 0 3 24 rfl mW_0 (mW_p24 eM1) rfl rfl (by decide) ⟨rfl, rfl, rfl⟩ (hts _ q1483) rfl (ty := .int) rfl rfl rfl (by rw [mW_l]; decide) dX3_readAll_2 (fun H locs hW => ?_)
  have hW : bW D g A s H locs [mW g adM kM tM M1] := hW
  refine lv_aload_n hx hb dX3_readAll_5 rfl (lv_at hl 0 rfl) ?_
  refine lv_iconst (v := 0) hx hb dX3_readAll_6 (by decide) ?_
  obtain ⟨M2, eM2, hf⟩ := o_ls hf
  refine b_put hx hb hts in_X3 tyX3 tyX3_ok nmX3 hown hW 0 0 3 18 rfl mW_0 (mW_p18 eM2) rfl rfl (by decide) ⟨rfl, rfl, rfl⟩ (hts _ q1477) rfl (ty := .int) rfl rfl rfl (by rw [mW_l]; decide) dX3_readAll_7 (fun H locs hW => ?_)
  have hW : bW D g A s H locs [mW g adM kM tM M2] := hW
  refine lv_aload_n hx hb dX3_readAll_10 rfl (lv_at hl 0 rfl) ?_
  obtain ⟨M3, hc3, hf⟩ := o_b1s hf
  have hp3 : List.Perm [mW g adM kM tM M2] ([mW g adM kM tM M2] ++ []) := b_perm [0] [] 1 rfl rfl rfl rfl
  refine b_call0 ⟨rfl, rfl⟩ (va_runV (As := []) (rest := []) ⟨hx, hb, hml, hown, hts⟩ (m_X3_look l D g H.size adM kM tM fu M2 M3 hc3) (cwV 0 hts (lw_V q1718 q1720 qs48 q79 q1721) rfl rfl rfl (by decide +kernel) ⟨Nat.le_of_ble_eq_true rfl, Nat.le_of_ble_eq_true rfl⟩) (b_preV (pp := 0) (q := 0) hW hp3 rfl mW_0 rfl) rfl rfl hl.1 rfl (lv_room (Nat.le_of_ble_eq_true rfl)) dX3_readAll_11 ⟨Nat.le_of_ble_eq_true rfl, Nat.le_of_ble_eq_true rfl⟩) hW hp3 (fun _ _ H locs hW => ?_)
  have hW : bW D g A s H locs [mW g adM kM tM M3] := hW
  refine lv_aload_n hx hb dX3_readAll_14 rfl (lv_at hl 0 rfl) ?_
  obtain ⟨r4, M5, hc5, hf⟩ := o_b2s hf
  have hp5 : List.Perm [mW g adM kM tM M3] ([mW g adM kM tM M3] ++ []) := b_perm [0] [] 1 rfl rfl rfl rfl
  refine b_call0 ⟨rfl, rfl⟩ (va_runV (As := []) (rest := []) ⟨hx, hb, hml, hown, hts⟩ (m_X3_statement l D g H.size adM kM tM fu M3 r4 M5 hc5) (cwV 0 hts (lw_V q1729 q1731 qs49 q79 q1732) rfl rfl rfl (by decide +kernel) ⟨Nat.le_of_ble_eq_true rfl, Nat.le_of_ble_eq_true rfl⟩) (b_preV (pp := 0) (q := 0) hW hp5 rfl mW_0 rfl) rfl rfl hl.1 rfl (lv_room (Nat.le_of_ble_eq_true rfl)) dX3_readAll_15 ⟨Nat.le_of_ble_eq_true rfl, Nat.le_of_ble_eq_true rfl⟩) hW hp5 (fun _ _ H locs hW => ?_)
  have hW : bW D g A s H locs [mW g adM kM tM M5] := hW
  refine lv_if_ne (tgt := 23) hx hb dX3_readAll_18 (by decide) (fun c6 => ?_) (fun c6 => ?_)
  · have hf := o_f hf c6
    obtain ⟨stp7, est7, hf⟩ := o_ln hf
    have L7 : ∀ (n : Nat) (M8 : BC) (H : Heap) (locs : List Loc) (ls : Array Slot), bW D g A s H locs [mW g adM kM tM M8] → lv_has ls 1 [(0, .ref (adM 0))] → o_lp stp7 n M8 = some (rO, MO) → W p l e rm_X3_readAll s m args below meth c H locs 0 0 Q (F0 m 23 ls []) := by
      intro n7
      induction n7 with
      | zero => intro M8 H locs ls hW hl hf; exact (o_lz hf).elim
      | succ n7 ih7 =>
        intro M8 H locs ls hW hl hf
        have hf := o_lu est7 hf
        rw [f_X3_readAll_L23] at hf
        refine lv_aload_n hx hb dX3_readAll_23 rfl (lv_at hl 0 rfl) ?_
        refine b_get hx hb hts in_X3 hown hW 0 0 3 19 rfl mW_0 rfl (by decide) ⟨rfl, rfl, rfl⟩ (hts _ q1478) mW_g19 dX3_readAll_24 ?_
        refine lv_if_eq (tgt := 69) hx hb dX3_readAll_27 (by decide) (fun c9 => ?_) (fun c9 => ?_)
        · have hf := o_t hf c9
          refine lv_iconst (v := 1) hx hb dX3_readAll_69 (by decide) ?_
          cases hf
          exact b_zret hx hb hr hlk hE hW () rfl trivial rfl (by decide) dX3_readAll_70
        · have hf := o_f hf c9
          refine lv_aload_n hx hb dX3_readAll_30 rfl (lv_at hl 0 rfl) ?_
          refine b_get hx hb hts in_X3 hown hW 0 0 3 19 rfl mW_0 rfl (by decide) ⟨rfl, rfl, rfl⟩ (hts _ q1478) mW_g19 dX3_readAll_31 ?_
          refine lv_iconst (v := 3) hx hb dX3_readAll_34 (by decide) ?_
          refine lv_icmp_eq (tgt := 43) hx hb dX3_readAll_35 (by decide) (fun c10 => ?_) (fun c10 => ?_)
          · have hf := o_t hf c10
            refine lv_aload_n hx hb dX3_readAll_43 rfl (lv_at hl 0 rfl) ?_
            obtain ⟨M11, hc11, hf⟩ := o_b1s hf
            have hp11 : List.Perm [mW g adM kM tM M8] ([mW g adM kM tM M8] ++ []) := b_perm [0] [] 1 rfl rfl rfl rfl
            refine b_call0 ⟨rfl, rfl⟩ (va_runV (As := []) (rest := []) ⟨hx, hb, hml, hown, hts⟩ (m_X3_look l D g H.size adM kM tM fu M8 M11 hc11) (cwV 0 hts (lw_V q1718 q1720 qs48 q79 q1721) rfl rfl rfl (by decide +kernel) ⟨Nat.le_of_ble_eq_true rfl, Nat.le_of_ble_eq_true rfl⟩) (b_preV (pp := 0) (q := 0) hW hp11 rfl mW_0 rfl) rfl rfl hl.1 rfl (lv_room (Nat.le_of_ble_eq_true rfl)) dX3_readAll_44 ⟨Nat.le_of_ble_eq_true rfl, Nat.le_of_ble_eq_true rfl⟩) hW hp11 (fun _ _ H locs hW => ?_)
            have hW : bW D g A s H locs [mW g adM kM tM M11] := hW
            refine lv_aload_n hx hb dX3_readAll_47 rfl (lv_at hl 0 rfl) ?_
            obtain ⟨r12, M13, hc13, hf⟩ := o_b2s hf
            have hp13 : List.Perm [mW g adM kM tM M11] ([mW g adM kM tM M11] ++ []) := b_perm [0] [] 1 rfl rfl rfl rfl
            refine b_call0 ⟨rfl, rfl⟩ (va_runV (As := []) (rest := []) ⟨hx, hb, hml, hown, hts⟩ (m_X3_statement l D g H.size adM kM tM fu M11 r12 M13 hc13) (cwV 0 hts (lw_V q1729 q1731 qs49 q79 q1732) rfl rfl rfl (by decide +kernel) ⟨Nat.le_of_ble_eq_true rfl, Nat.le_of_ble_eq_true rfl⟩) (b_preV (pp := 0) (q := 0) hW hp13 rfl mW_0 rfl) rfl rfl hl.1 rfl (lv_room (Nat.le_of_ble_eq_true rfl)) dX3_readAll_48 ⟨Nat.le_of_ble_eq_true rfl, Nat.le_of_ble_eq_true rfl⟩) hW hp13 (fun _ _ H locs hW => ?_)
            have hW : bW D g A s H locs [mW g adM kM tM M13] := hW
            refine lv_if_ne (tgt := 56) hx hb dX3_readAll_51 (by decide) (fun c14 => ?_) (fun c14 => ?_)
            · have hf := o_f hf c14
              refine lv_aload_n hx hb dX3_readAll_56 rfl (lv_at hl 0 rfl) ?_
              refine lv_dup hx hb dX3_readAll_57 rfl ?_
              refine b_get hx hb hts in_X3 hown hW 0 0 3 24 rfl mW_0 rfl (by decide) ⟨rfl, rfl, rfl⟩ (hts _ q1483) mW_g24 dX3_readAll_58 ?_
              refine lv_iconst (v := 1) hx hb dX3_readAll_61 (by decide) ?_
              refine lv_iadd hx hb dX3_readAll_62 ?_
              obtain ⟨v15, ev15, hf⟩ := o_ls hf
              refine b_topi ev15 ?_
              obtain ⟨M16, eM16, hf⟩ := o_ls hf
              refine b_put hx hb hts in_X3 tyX3 tyX3_ok nmX3 hown hW 0 0 3 24 rfl mW_0 (mW_p24 eM16) rfl rfl (by decide) ⟨rfl, rfl, rfl⟩ (hts _ q1483) rfl (ty := .int) rfl rfl rfl (by rw [mW_l]; decide) dX3_readAll_63 (fun H locs hW => ?_)
              have hW : bW D g A s H locs [mW g adM kM tM M16] := hW
              refine lv_goto (tgt := 23) hx hb dX3_readAll_66 (by decide) ?_
              exact ih7 _ _ _ _ hW (lv_sub hl [0] rfl) hf
            · have hf := o_t hf c14
              refine lv_iconst (v := 0) hx hb dX3_readAll_54 (by decide) ?_
              cases hf
              exact b_zret hx hb hr hlk hE hW () rfl trivial rfl (by decide) dX3_readAll_55
          · have hf := o_f hf c10
            refine lv_aload_n hx hb dX3_readAll_38 rfl (lv_at hl 0 rfl) ?_
            obtain ⟨r17, M18, hc18, hf⟩ := o_b2s hf
            have hp18 : List.Perm [mW g adM kM tM M8] ([mW g adM kM tM M8] ++ []) := b_perm [0] [] 1 rfl rfl rfl rfl
            refine b_call0 ⟨rfl, rfl⟩ (va_runV (As := []) (rest := []) ⟨hx, hb, hml, hown, hts⟩ (m_X3_wrong l D g H.size adM kM tM M8 r17 M18 hc18) (cwV 0 hts (lw_V q1769 q1771 qs54 q79 q1772) rfl rfl rfl (by decide +kernel) ⟨Nat.le_of_ble_eq_true rfl, Nat.le_of_ble_eq_true rfl⟩) (b_preV (pp := 0) (q := 0) hW hp18 rfl mW_0 rfl) rfl rfl hl.1 rfl (lv_room (Nat.le_of_ble_eq_true rfl)) dX3_readAll_39 ⟨Nat.le_of_ble_eq_true rfl, Nat.le_of_ble_eq_true rfl⟩) hW hp18 (fun _ _ H locs hW => ?_)
            have hW : bW D g A s H locs [mW g adM kM tM M18] := hW
            obtain ⟨h19, hf⟩ := o_cs hf
            cases hf
            exact b_zret hx hb hr hlk hE hW () rfl trivial rfl h19 dX3_readAll_42
    exact L7 _ _ _ _ _ hW (lv_sub hl [0] rfl) hf
  · have hf := o_t hf c6
    refine lv_iconst (v := 0) hx hb dX3_readAll_21 (by decide) ?_
    cases hf
    exact b_zret hx hb hr hlk hE hW () rfl trivial rfl (by decide) dX3_readAll_22
def f_X3_valley (fu : Nat) (M : BC) (To : Option BC) : Option (Int32 × BC × Option BC) :=
 o_b1 (f_X3_fresh fu M To) fun (T1 : BC) =>
 o_b2 (f_X3_readAll fu M) fun (r4 : Int32) (M5 : BC) =>
 o_lt (bI M5 0 (upd (M5.1 0) 0 0)) fun (M6 : BC) =>
 (if r4 = 0 then
 o_b1 (f_X3_takeFrom fu M6 T1) fun (M8 : BC) =>
 o_b2 (f_X3_refuse M8 (-2)) fun (r9 : Int32) (M10 : BC) =>
 o_lt ((-20) - (M10.1 0 10)) fun (v11 : Int32) =>
 some (v11, M10, (some T1))
 else
 some (M6.1 0 11, M6, (some T1)))
abbrev rm_X3_valley (tQ : Option ((Nat → Nat) × BC)) : Room := { frames := 8, cells := o_k 45 tQ, slots := o_k 842 tQ, locals := 169 }
set_option maxHeartbeats 4000000 in
set_option maxRecDepth 100000 in
theorem m_X3_valley (l : Launch) (D : va_G) (g : Nat → ClassId) (sz : Nat) (adM : Nat → Nat) (kM : Option Nat) (tQ : Option ((Nat → Nat) × BC)) (fu : Nat) (M : BC) (rO : Int32) (MO : BC) (TO : Option BC) (hf : f_X3_valley fu M (tQ.map Prod.snd) = some (rO, MO, TO)) : bMet (S := Option ((Nat → Nat) × BC)) l yX3_valley (ws_ yX3_valley cX3_valley 3 (some .int)) (rm_X3_valley tQ) D g sz [.ref (adM 0)] [mW g adM kM (o_a tQ) M, oM g tQ] (fun tQ1 => tQ1.map Prod.snd = TO) (fun _ => some (.int rO)) (fun tQ1 => [mW g adM kM (o_a tQ1) MO, oM g tQ1]) := by
  refine b_met (by decide) (Nat.le_of_ble_eq_true rfl) ?_
  intro p e s m args below meth c A Q ls hx hb hml hr hlk hown hname hts hE hl hW
  revert hW; generalize s.heap = H; intro hW
  have hl : lv_has ls 3 [(0, .ref (adM 0))] := hl
  rw [f_X3_valley] at hf
  have hq0 : 0 + o_k 45 tQ ≤ o_k 45 tQ ∧ 0 + o_k 842 tQ ≤ o_k 842 tQ := ⟨Nat.le_of_eq (Nat.zero_add _), Nat.le_of_eq (Nat.zero_add _)⟩
  refine lv_aload_n hx hb dX3_valley_0 rfl (lv_at hl 0 rfl) ?_
  obtain ⟨T1, hc2, hf⟩ := o_b1s hf
  have hp2 : List.Perm [mW g adM kM (o_a tQ) M, oM g tQ] ([mW g adM kM (o_a tQ) M, oM g tQ] ++ []) := b_perm [0, 1] [] 2 rfl rfl rfl rfl
  refine b_call (va_runV (As := []) (rest := []) ⟨hx, hb, hml, hown, hts⟩ (m_X3_fresh l D g H.size adM kM tQ fu M T1 hc2) (cwV 0 hts (lw_V q1701 q1703 qs45 q79 q1704) rfl rfl rfl (by decide +kernel) ⟨Nat.le_of_ble_eq_true rfl, Nat.le_of_ble_eq_true rfl⟩) (b_preV (pp := 0) (q := 0) hW hp2 rfl mW_0 rfl) rfl rfl hl.1 rfl (lv_room (Nat.le_of_ble_eq_true rfl)) dX3_valley_1 ⟨hq0.1, hq0.2⟩) hW hp2 (fun ad2 _ H locs hW => ?_)
  refine W.cs (cells' := (0 + o_k 45 tQ)) (slots' := (0 + o_k 842 tQ)) rfl rfl ?_
  have hq3 : (0 + o_k 45 tQ) + o_k 45 (some (ad2, T1)) ≤ o_k 45 tQ ∧ (0 + o_k 842 tQ) + o_k 842 (some (ad2, T1)) ≤ o_k 842 tQ := hq0
  have hW : bW D g A s H locs [mW g adM kM (some (ad2 0)) M, mW g ad2 none none T1] := hW
  refine lv_astore_n (lv' := [(1, .ref (ad2 0)), (0, .ref (adM 0))]) hx hb dX3_valley_4 rfl hl (by decide) rfl (fun ls hl => ?_)
  refine lv_aload_n hx hb dX3_valley_5 rfl (lv_at hl 1 rfl) ?_
  obtain ⟨r4, M5, hc5, hf⟩ := o_b2s hf
  have hp5 : List.Perm [mW g adM kM (some (ad2 0)) M, mW g ad2 none none T1] ([mW g adM kM (some (ad2 0)) M] ++ [mW g ad2 none none T1]) := b_perm [0] [1] 2 rfl rfl rfl rfl
  refine b_call0 ⟨rfl, rfl⟩ (va_runV (As := []) (rest := []) ⟨hx, hb, hml, hown, hts⟩ (m_X3_readAll l D g H.size adM kM (some (ad2 0)) fu M r4 M5 hc5) (cwV 0 hts (lw_V q1714 q1716 qs47 q79 q1717) rfl rfl rfl (by decide +kernel) ⟨Nat.le_of_ble_eq_true rfl, Nat.le_of_ble_eq_true rfl⟩) (b_preV (pp := 0) (q := 0) hW hp5 rfl mW_0 rfl) rfl rfl hl.1 rfl (lv_room (Nat.le_of_ble_eq_true rfl)) dX3_valley_6 ⟨o_q2 hq3.1, o_q2 hq3.2⟩) hW hp5 (fun _ _ H locs hW => ?_)
  have hW : bW D g A s H locs [mW g adM kM (some (ad2 0)) M5, mW g ad2 none none T1] := hW
  refine lv_istore_n (lv' := [(2, .int r4), (1, .ref (ad2 0)), (0, .ref (adM 0))]) hx hb dX3_valley_9 rfl hl (by decide) rfl (fun ls hl => ?_)
  refine lv_aload_n hx hb dX3_valley_10 rfl (lv_at hl 2 rfl) ?_
  refine lv_iconst (v := 0) hx hb dX3_valley_11 (by decide) ?_
  obtain ⟨M6, eM6, hf⟩ := o_ls hf
  refine b_put hx hb hts in_X3 tyX3 tyX3_ok nmX3 hown hW 0 0 3 7 rfl mW_0 (mW_p7 eM6) rfl rfl (by decide) ⟨rfl, rfl, rfl⟩ (hts _ q1466) rfl (ty := .int) rfl rfl rfl (by rw [mW_l]; decide) dX3_valley_12 (fun H locs hW => ?_)
  have hW : bW D g A s H locs [mW g adM kM (some (ad2 0)) M6, mW g ad2 none none T1] := hW
  refine lv_iload_n hx hb dX3_valley_15 rfl (lv_at hl 0 rfl) ?_
  refine lv_if_ne (tgt := 39) hx hb dX3_valley_16 (by decide) (fun c7 => ?_) (fun c7 => ?_)
  · have hf := o_f hf c7
    refine lv_aload_n hx hb dX3_valley_39 rfl (lv_at hl 2 rfl) ?_
    refine b_get hx hb hts in_X3 hown hW 0 0 3 24 rfl mW_0 rfl (by decide) ⟨rfl, rfl, rfl⟩ (hts _ q1483) mW_g24 dX3_valley_40 ?_
    refine W.widen (k := o_k 45 tQ) (n := o_k 842 tQ) (o_q3 hq3.1) (o_q3 hq3.2) ?_
    cases hf
    exact b_iret hx hb hr hlk hE hW (some (ad2, T1)) rfl rfl rfl dX3_valley_43
  · have hf := o_t hf c7
    refine lv_aload_n hx hb dX3_valley_19 rfl (lv_at hl 2 rfl) ?_
    refine lv_aload_n hx hb dX3_valley_20 rfl (lv_at hl 1 rfl) ?_
    obtain ⟨M8, hc8, hf⟩ := o_b1s hf
    have hp8 : List.Perm [mW g adM kM (some (ad2 0)) M6, mW g ad2 none none T1] ([mW g adM kM (some (ad2 0)) M6, mW g ad2 none none T1] ++ []) := b_perm [0, 1] [] 2 rfl rfl rfl rfl
    refine b_call0 ⟨rfl, rfl⟩ (va_runV (As := [.ref (ad2 0)]) (rest := []) ⟨hx, hb, hml, hown, hts⟩ (m_X3_takeFrom l D g H.size adM kM (some (ad2 0)) ad2 none none fu M6 T1 M8 hc8) (cwV 1 hts (lw_V q1707 q1709 qs46 q79 q1710) rfl rfl rfl (by decide +kernel) ⟨Nat.le_of_ble_eq_true rfl, Nat.le_of_ble_eq_true rfl⟩) (b_preV (pp := 0) (q := 0) hW hp8 rfl mW_0 rfl) rfl rfl hl.1 rfl (lv_room (Nat.le_of_ble_eq_true rfl)) dX3_valley_21 ⟨o_q2 hq3.1, o_q2 hq3.2⟩) hW hp8 (fun _ _ H locs hW => ?_)
    have hW : bW D g A s H locs [mW g adM kM (some (ad2 0)) M8, mW g ad2 none none T1] := hW
    refine lv_aload_n hx hb dX3_valley_24 rfl (lv_at hl 2 rfl) ?_
    refine lv_bipush (v := (-2)) hx hb dX3_valley_25 (by decide) ?_
    obtain ⟨r9, M10, hc10, hf⟩ := o_b2s hf
    have hp10 : List.Perm [mW g adM kM (some (ad2 0)) M8, mW g ad2 none none T1] ([mW g adM kM (some (ad2 0)) M8] ++ [mW g ad2 none none T1]) := b_perm [0] [1] 2 rfl rfl rfl rfl
    refine b_call0 ⟨rfl, rfl⟩ (va_runV (As := [.int (-2)]) (rest := []) ⟨hx, hb, hml, hown, hts⟩ (m_X3_refuse l D g H.size adM kM (some (ad2 0)) M8 (-2) r9 M10 hc10) (cwV 1 hts (lw_V q1572 q1574 qs33 q79 q1575) rfl rfl rfl (by decide +kernel) ⟨Nat.le_of_ble_eq_true rfl, Nat.le_of_ble_eq_true rfl⟩) (b_preV (pp := 0) (q := 0) hW hp10 rfl mW_0 rfl) rfl rfl hl.1 rfl (lv_room (Nat.le_of_ble_eq_true rfl)) dX3_valley_27 ⟨o_q2 hq3.1, o_q2 hq3.2⟩) hW hp10 (fun _ _ H locs hW => ?_)
    have hW : bW D g A s H locs [mW g adM kM (some (ad2 0)) M10, mW g ad2 none none T1] := hW
    refine lv_pop hx hb dX3_valley_30 rfl ?_
    refine lv_bipush (v := (-20)) hx hb dX3_valley_31 (by decide) ?_
    refine lv_aload_n hx hb dX3_valley_33 rfl (lv_at hl 2 rfl) ?_
    refine b_get hx hb hts in_X3 hown hW 0 0 3 22 rfl mW_0 rfl (by decide) ⟨rfl, rfl, rfl⟩ (hts _ q1481) mW_g22 dX3_valley_34 ?_
    refine lv_isub hx hb dX3_valley_37 ?_
    obtain ⟨v11, ev11, hf⟩ := o_ls hf
    refine b_topi ev11 ?_
    refine W.widen (k := o_k 45 tQ) (n := o_k 842 tQ) (o_q3 hq3.1) (o_q3 hq3.2) ?_
    cases hf
    exact b_iret hx hb hr hlk hE hW (some (ad2, T1)) rfl rfl rfl dX3_valley_38
