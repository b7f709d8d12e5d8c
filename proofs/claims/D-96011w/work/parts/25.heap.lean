/-! Methods that make goers and valleys: printed by gen/all.py -/
set_option maxRecDepth 100000
def q_ck (b : Bool) (p : Prop) : Prop := b = true ∧ p
def q_lt {α : Type} (e : α) (k : α → Prop) : Prop := ∃ x, e = x ∧ k x
def q_b1 {α : Type} (x : Option α) (k : α → Prop) : Prop := ∃ a, x = some a ∧ k a
def q_b2 {α β : Type} (x : Option (α × β)) (k : α → β → Prop) : Prop := ∃ a b, x = some (a, b) ∧ k a b
def q_b3 {α β γ : Type} (x : Option (α × β × γ)) (k : α → β → γ → Prop) : Prop := ∃ a b c, x = some (a, b, c) ∧ k a b c
def q_b4 {α β γ δ : Type} (x : Option (α × β × γ × δ)) (k : α → β → γ → δ → Prop) : Prop := ∃ a b c d, x = some (a, b, c, d) ∧ k a b c d
def q_op {β : Type} (r : Option β) (A : Prop) (B : β → Prop) : Prop := match r with | none => A | some a => B a
def q_al (L : List Nat) (k : Nat → Prop) : Prop := ∀ z, z ∉ L → k z
def q_lp {σ : Type} (step : (σ → Prop) → σ → Prop) : Nat → σ → Prop
  | 0, _ => False
  | n + 1, s => step (q_lp step n) s
theorem q_cs {b : Bool} {p : Prop} (h : q_ck b p) : b = true ∧ p := h
theorem q_ls {α : Type} {e : α} {k : α → Prop} (h : q_lt e k) : ∃ x, e = x ∧ k x := h
theorem q_b1s {α : Type} {x : Option α} {k : α → Prop} (h : q_b1 x k) : ∃ a, x = some a ∧ k a := h
theorem q_b2s {α β : Type} {x : Option (α × β)} {k : α → β → Prop} (h : q_b2 x k) : ∃ a b, x = some (a, b) ∧ k a b := h
theorem q_b3s {α β γ : Type} {x : Option (α × β × γ)} {k : α → β → γ → Prop} (h : q_b3 x k) : ∃ a b c, x = some (a, b, c) ∧ k a b c := h
theorem q_b4s {α β γ δ : Type} {x : Option (α × β × γ × δ)} {k : α → β → γ → δ → Prop} (h : q_b4 x k) : ∃ a b c d, x = some (a, b, c, d) ∧ k a b c d := h
theorem q_opn {β : Type} {r : Option β} {A : Prop} {B : β → Prop} (h : q_op r A B) (e : r = none) : A := by subst e; exact h
theorem q_ops {β : Type} {r : Option β} {A : Prop} {B : β → Prop} {a : β} (h : q_op r A B) (e : r = some a) : B a := by subst e; exact h
theorem q_als {L : List Nat} {k : Nat → Prop} (h : q_al L k) {z : Nat} (hz : z ∉ L) : k z := h z hz
theorem q_t {c : Prop} [Decidable c] {a b : Prop} (h : if c then a else b) (hc : c) : a := by rwa [if_pos hc] at h
theorem q_f {c : Prop} [Decidable c] {a b : Prop} (h : if c then a else b) (hc : ¬ c) : b := by rwa [if_neg hc] at h
theorem q_lz {σ : Type} {step : (σ → Prop) → σ → Prop} {s : σ} (h : q_lp step 0 s) : False := h
theorem q_ln {σ : Type} {step : (σ → Prop) → σ → Prop} {n : Nat} {s : σ} (h : q_lp step n s) : ∃ stp, stp = step ∧ q_lp stp n s := ⟨step, rfl, h⟩
theorem q_lu {σ : Type} {step stp : (σ → Prop) → σ → Prop} (e : stp = step) {n : Nat} {s : σ} (h : q_lp stp (n + 1) s) : step (q_lp stp n) s := by subst e; exact h
theorem b_push {s : State} {H : Heap} {locs : List Loc} {D : va_G} {g : Nat → ClassId} {A : Nat → Prop} {Bs : List va_W} {L : List Nat} {kd : Nat → Nat} {nu aa : Nat → Int32} {z k : Nat} {n a : Int32} (hW : bW D g A s H locs (gW L kd nu aa :: [(z, .inr (5 + k, [.int n, .int a]))] :: Bs)) : z ∉ L ∧ bW D g A s H locs (gW (z :: L) (fun q => if q = z then k else kd q) (fun q => if q = z then n else nu q) (fun q => if q = z then a else aa q) :: Bs) := by
  have hz : z ∉ L := by
    obtain ⟨-, -, h3, -⟩ := hW
    have h3 : va_D A (va_pl L (fun a => .inr (5 + kd a, [.int (nu a), .int (aa a)])) ++ ([(z, .inr (5 + k, [.int n, .int a]))] ++ Bs.flatten)) := h3
    rw [← List.append_assoc] at h3
    exact va_pl_fresh2 (X := []) (by simpa using (b_Dapp h3).1)
  refine ⟨hz, ?_⟩
  have e : gW (z :: L) (fun q => if q = z then k else kd q) (fun q => if q = z then n else nu q) (fun q => if q = z then a else aa q) = (z, .inr (5 + k, [.int n, .int a])) :: gW L kd nu aa := by
    unfold gW va_pl
    rw [List.map_cons]
    refine List.cons_eq_cons.mpr ⟨by simp, List.map_congr_left fun x hx => ?_⟩
    have hne : x ≠ z := fun e => hz (e ▸ hx)
    simp [hne]
  rw [e]
  have hW2 := b_perms hW (List.Perm.swap [(z, .inr (5 + k, [.int n, .int a]))] (gW L kd nu aa) Bs)
  exact hW2

def f_X0_made (x1 : Int32) : Option Nat :=
 (if x1 = 0 then
 some 0
 else
 (if x1 = 1 then
 some 1
 else
 (if x1 = 2 then
 some 2
 else
 (if x1 = 3 then
 some 3
 else
 (if x1 = 4 then
 some 4
 else
 some 5)))))
abbrev rm_X0_made : Room := { frames := 4, cells := 1, slots := 2, locals := 90 }
set_option maxHeartbeats 4000000 in
theorem m_X0_made (l : Launch) (D : va_G) (g : Nat → ClassId) (sz : Nat) (x1 x2 x3 : Int32) (k : Nat) (hf : f_X0_made x1 = some k) : bMet (S := Nat) l yX0_made (ws_ yX0_made cX0_made 3 (some (.object "EverybodyHasTheBook$Goer"))) rm_X0_made D g sz [.int x1, .int x2, .int x3] [] (fun _ => True) (fun z => some (.ref z)) (fun z => [[(z, .inr (5 + k, [.int x2, .int x3]))]]) := by
  refine b_met (by decide) (Nat.le_of_ble_eq_true rfl) ?_
  intro p e s m args below meth c A Q ls hx hb hml hr hlk hown hname hts hE hl hW
  revert hW; generalize s.heap = H; intro hW
  have hl : lv_has ls 3 [(0, .int x1), (1, .int x2), (2, .int x3)] := hl
  rw [f_X0_made] at hf
  refine lv_iload_n hx hb dX0_made_0 rfl (lv_at hl 0 rfl) ?_
  by_cases c1 : x1 = 0
  · have hf := o_t hf c1
    refine lv_tableIn (off := 35) (tgt := 36) hx hb dX0_made_1 (by rw [c1]; decide) (by rw [c1]; decide) (by rw [c1]; rfl) (by decide) ?_
    refine b_new (ci := 5) (fs := [.int 0, .int 0]) hx hb hts in_X5 tyX5 tyX5_ok hown (hts _ q385) (hts _ q610) (hts _ q93) hW rfl (by intro j hj; rcases (show j = 0 ∨ j = 1 by omega) with rfl | rfl <;> rfl) (Nat.le_of_ble_eq_true rfl) (Nat.le_of_ble_eq_true rfl) dX0_made_36 (fun z2 H hW => ?_)
    refine W.cs (cells' := 1) (slots' := 2) rfl rfl ?_
    have hW : bW D g A s H _ [[(z2, .inr (5, [.int 0, .int 0]))]] := hW
    refine lv_dup hx hb dX0_made_39 rfl ?_
    refine lv_iload_n hx hb dX0_made_40 rfl (lv_at hl 1 rfl) ?_
    refine lv_iload_n hx hb dX0_made_41 rfl (lv_at hl 2 rfl) ?_
    have hp3 : List.Perm ([[(z2, .inr (5, [.int 0, .int 0]))]] : List va_W) ([[(z2, .inr (5, [.int 0, .int 0]))]] ++ []) := b_perm [0] [] 1 rfl rfl rfl rfl
    refine b_call (va_runI (As := [.int x2, .int x3]) (rest := [.ref z2]) ⟨hx, hb, hml, hown, hts⟩ (m_X5_init l D g H.size z2 0 (by decide) 0 0 x2 x3) (cwI 2 hts (lw_meth q613) rfl rfl rfl (hts _ q93) (hts _ q611) (hts _ q612) rfl (by decide +kernel) ⟨Nat.le_of_ble_eq_true rfl, Nat.le_of_ble_eq_true rfl⟩) (b_preS hW hp3) rfl rfl hl.1 rfl (lv_room (Nat.le_of_ble_eq_true rfl)) dX0_made_42 ⟨Nat.le_of_ble_eq_true rfl, Nat.le_of_ble_eq_true rfl⟩) hW hp3 (fun _ _ H locs hW => ?_)
    refine W.cs (cells' := 1) (slots' := 2) rfl rfl ?_
    have hW : bW D g A s H _ [[(z2, .inr (5, [.int x2, .int x3]))]] := hW
    cases hf
    exact b_aret hx hb hr (Or.inl ⟨_, rfl⟩) hlk hE hW z2 rfl trivial (Or.inr ⟨_, rfl⟩) rfl dX0_made_45
  · have hf := o_f hf c1
    by_cases c4 : x1 = 1
    · have hf := o_t hf c4
      refine lv_tableIn (off := 45) (tgt := 46) hx hb dX0_made_1 (by rw [c4]; decide) (by rw [c4]; decide) (by rw [c4]; rfl) (by decide) ?_
      refine b_new (ci := 6) (fs := [.int 0, .int 0]) hx hb hts in_X6 tyX6 tyX6_ok hown (hts _ q507) (hts _ q627) (hts _ q94) hW rfl (by intro j hj; rcases (show j = 0 ∨ j = 1 by omega) with rfl | rfl <;> rfl) (Nat.le_of_ble_eq_true rfl) (Nat.le_of_ble_eq_true rfl) dX0_made_46 (fun z5 H hW => ?_)
      refine W.cs (cells' := 1) (slots' := 2) rfl rfl ?_
      have hW : bW D g A s H _ [[(z5, .inr (6, [.int 0, .int 0]))]] := hW
      refine lv_dup hx hb dX0_made_49 rfl ?_
      refine lv_iload_n hx hb dX0_made_50 rfl (lv_at hl 1 rfl) ?_
      refine lv_iload_n hx hb dX0_made_51 rfl (lv_at hl 2 rfl) ?_
      have hp6 : List.Perm ([[(z5, .inr (6, [.int 0, .int 0]))]] : List va_W) ([[(z5, .inr (6, [.int 0, .int 0]))]] ++ []) := b_perm [0] [] 1 rfl rfl rfl rfl
      refine b_call (va_runI (As := [.int x2, .int x3]) (rest := [.ref z5]) ⟨hx, hb, hml, hown, hts⟩ (m_X6_init l D g H.size z5 1 (by decide) 0 0 x2 x3) (cwI 2 hts (lw_meth q630) rfl rfl rfl (hts _ q94) (hts _ q628) (hts _ q629) rfl (by decide +kernel) ⟨Nat.le_of_ble_eq_true rfl, Nat.le_of_ble_eq_true rfl⟩) (b_preS hW hp6) rfl rfl hl.1 rfl (lv_room (Nat.le_of_ble_eq_true rfl)) dX0_made_52 ⟨Nat.le_of_ble_eq_true rfl, Nat.le_of_ble_eq_true rfl⟩) hW hp6 (fun _ _ H locs hW => ?_)
      refine W.cs (cells' := 1) (slots' := 2) rfl rfl ?_
      have hW : bW D g A s H _ [[(z5, .inr (6, [.int x2, .int x3]))]] := hW
      cases hf
      exact b_aret hx hb hr (Or.inl ⟨_, rfl⟩) hlk hE hW z5 rfl trivial (Or.inr ⟨_, rfl⟩) rfl dX0_made_55
    · have hf := o_f hf c4
      by_cases c7 : x1 = 2
      · have hf := o_t hf c7
        refine lv_tableIn (off := 55) (tgt := 56) hx hb dX0_made_1 (by rw [c7]; decide) (by rw [c7]; decide) (by rw [c7]; rfl) (by decide) ?_
        refine b_new (ci := 7) (fs := [.int 0, .int 0]) hx hb hts in_X7 tyX7 tyX7_ok hown (hts _ q591) (hts _ q634) (hts _ q95) hW rfl (by intro j hj; rcases (show j = 0 ∨ j = 1 by omega) with rfl | rfl <;> rfl) (Nat.le_of_ble_eq_true rfl) (Nat.le_of_ble_eq_true rfl) dX0_made_56 (fun z8 H hW => ?_)
        refine W.cs (cells' := 1) (slots' := 2) rfl rfl ?_
        have hW : bW D g A s H _ [[(z8, .inr (7, [.int 0, .int 0]))]] := hW
        refine lv_dup hx hb dX0_made_59 rfl ?_
        refine lv_iload_n hx hb dX0_made_60 rfl (lv_at hl 1 rfl) ?_
        refine lv_iload_n hx hb dX0_made_61 rfl (lv_at hl 2 rfl) ?_
        have hp9 : List.Perm ([[(z8, .inr (7, [.int 0, .int 0]))]] : List va_W) ([[(z8, .inr (7, [.int 0, .int 0]))]] ++ []) := b_perm [0] [] 1 rfl rfl rfl rfl
        refine b_call (va_runI (As := [.int x2, .int x3]) (rest := [.ref z8]) ⟨hx, hb, hml, hown, hts⟩ (m_X7_init l D g H.size z8 2 (by decide) 0 0 x2 x3) (cwI 2 hts (lw_meth q637) rfl rfl rfl (hts _ q95) (hts _ q635) (hts _ q636) rfl (by decide +kernel) ⟨Nat.le_of_ble_eq_true rfl, Nat.le_of_ble_eq_true rfl⟩) (b_preS hW hp9) rfl rfl hl.1 rfl (lv_room (Nat.le_of_ble_eq_true rfl)) dX0_made_62 ⟨Nat.le_of_ble_eq_true rfl, Nat.le_of_ble_eq_true rfl⟩) hW hp9 (fun _ _ H locs hW => ?_)
        refine W.cs (cells' := 1) (slots' := 2) rfl rfl ?_
        have hW : bW D g A s H _ [[(z8, .inr (7, [.int x2, .int x3]))]] := hW
        cases hf
        exact b_aret hx hb hr (Or.inl ⟨_, rfl⟩) hlk hE hW z8 rfl trivial (Or.inr ⟨_, rfl⟩) rfl dX0_made_65
      · have hf := o_f hf c7
        by_cases c10 : x1 = 3
        · have hf := o_t hf c10
          refine lv_tableIn (off := 65) (tgt := 66) hx hb dX0_made_1 (by rw [c10]; decide) (by rw [c10]; decide) (by rw [c10]; rfl) (by decide) ?_
          refine b_new (ci := 8) (fs := [.int 0, .int 0]) hx hb hts in_X8 tyX8 tyX8_ok hown (hts _ q592) (hts _ q641) (hts _ q96) hW rfl (by intro j hj; rcases (show j = 0 ∨ j = 1 by omega) with rfl | rfl <;> rfl) (Nat.le_of_ble_eq_true rfl) (Nat.le_of_ble_eq_true rfl) dX0_made_66 (fun z11 H hW => ?_)
          refine W.cs (cells' := 1) (slots' := 2) rfl rfl ?_
          have hW : bW D g A s H _ [[(z11, .inr (8, [.int 0, .int 0]))]] := hW
          refine lv_dup hx hb dX0_made_69 rfl ?_
          refine lv_iload_n hx hb dX0_made_70 rfl (lv_at hl 1 rfl) ?_
          refine lv_iload_n hx hb dX0_made_71 rfl (lv_at hl 2 rfl) ?_
          have hp12 : List.Perm ([[(z11, .inr (8, [.int 0, .int 0]))]] : List va_W) ([[(z11, .inr (8, [.int 0, .int 0]))]] ++ []) := b_perm [0] [] 1 rfl rfl rfl rfl
          refine b_call (va_runI (As := [.int x2, .int x3]) (rest := [.ref z11]) ⟨hx, hb, hml, hown, hts⟩ (m_X8_init l D g H.size z11 3 (by decide) 0 0 x2 x3) (cwI 2 hts (lw_meth q644) rfl rfl rfl (hts _ q96) (hts _ q642) (hts _ q643) rfl (by decide +kernel) ⟨Nat.le_of_ble_eq_true rfl, Nat.le_of_ble_eq_true rfl⟩) (b_preS hW hp12) rfl rfl hl.1 rfl (lv_room (Nat.le_of_ble_eq_true rfl)) dX0_made_72 ⟨Nat.le_of_ble_eq_true rfl, Nat.le_of_ble_eq_true rfl⟩) hW hp12 (fun _ _ H locs hW => ?_)
          refine W.cs (cells' := 1) (slots' := 2) rfl rfl ?_
          have hW : bW D g A s H _ [[(z11, .inr (8, [.int x2, .int x3]))]] := hW
          cases hf
          exact b_aret hx hb hr (Or.inl ⟨_, rfl⟩) hlk hE hW z11 rfl trivial (Or.inr ⟨_, rfl⟩) rfl dX0_made_75
        · have hf := o_f hf c10
          by_cases c13 : x1 = 4
          · have hf := o_t hf c13
            refine lv_tableIn (off := 75) (tgt := 76) hx hb dX0_made_1 (by rw [c13]; decide) (by rw [c13]; decide) (by rw [c13]; rfl) (by decide) ?_
            refine b_new (ci := 9) (fs := [.int 0, .int 0]) hx hb hts in_X9 tyX9 tyX9_ok hown (hts _ q593) (hts _ q649) (hts _ q97) hW rfl (by intro j hj; rcases (show j = 0 ∨ j = 1 by omega) with rfl | rfl <;> rfl) (Nat.le_of_ble_eq_true rfl) (Nat.le_of_ble_eq_true rfl) dX0_made_76 (fun z14 H hW => ?_)
            refine W.cs (cells' := 1) (slots' := 2) rfl rfl ?_
            have hW : bW D g A s H _ [[(z14, .inr (9, [.int 0, .int 0]))]] := hW
            refine lv_dup hx hb dX0_made_79 rfl ?_
            refine lv_iload_n hx hb dX0_made_80 rfl (lv_at hl 1 rfl) ?_
            refine lv_iload_n hx hb dX0_made_81 rfl (lv_at hl 2 rfl) ?_
            have hp15 : List.Perm ([[(z14, .inr (9, [.int 0, .int 0]))]] : List va_W) ([[(z14, .inr (9, [.int 0, .int 0]))]] ++ []) := b_perm [0] [] 1 rfl rfl rfl rfl
            refine b_call (va_runI (As := [.int x2, .int x3]) (rest := [.ref z14]) ⟨hx, hb, hml, hown, hts⟩ (m_X9_init l D g H.size z14 4 (by decide) 0 0 x2 x3) (cwI 2 hts (lw_meth q652) rfl rfl rfl (hts _ q97) (hts _ q650) (hts _ q651) rfl (by decide +kernel) ⟨Nat.le_of_ble_eq_true rfl, Nat.le_of_ble_eq_true rfl⟩) (b_preS hW hp15) rfl rfl hl.1 rfl (lv_room (Nat.le_of_ble_eq_true rfl)) dX0_made_82 ⟨Nat.le_of_ble_eq_true rfl, Nat.le_of_ble_eq_true rfl⟩) hW hp15 (fun _ _ H locs hW => ?_)
            refine W.cs (cells' := 1) (slots' := 2) rfl rfl ?_
            have hW : bW D g A s H _ [[(z14, .inr (9, [.int x2, .int x3]))]] := hW
            cases hf
            exact b_aret hx hb hr (Or.inl ⟨_, rfl⟩) hlk hE hW z14 rfl trivial (Or.inr ⟨_, rfl⟩) rfl dX0_made_85
          · have hf := o_f hf c13
            refine lv_tableOut (tgt := 86) hx hb dX0_made_1 (by have := lv_neT c1 (a := 0) (by decide); have := lv_neT c4 (a := 1) (by decide); have := lv_neT c7 (a := 2) (by decide); have := lv_neT c10 (a := 3) (by decide); have := lv_neT c13 (a := 4) (by decide); omega) (by decide) ?_
            refine b_new (ci := 10) (fs := [.int 0, .int 0]) hx hb hts in_X10 tyX10 tyX10_ok hown (hts _ q594) (hts _ q656) (hts _ q98) hW rfl (by intro j hj; rcases (show j = 0 ∨ j = 1 by omega) with rfl | rfl <;> rfl) (Nat.le_of_ble_eq_true rfl) (Nat.le_of_ble_eq_true rfl) dX0_made_86 (fun z16 H hW => ?_)
            refine W.cs (cells' := 1) (slots' := 2) rfl rfl ?_
            have hW : bW D g A s H _ [[(z16, .inr (10, [.int 0, .int 0]))]] := hW
            refine lv_dup hx hb dX0_made_89 rfl ?_
            refine lv_iload_n hx hb dX0_made_90 rfl (lv_at hl 1 rfl) ?_
            refine lv_iload_n hx hb dX0_made_91 rfl (lv_at hl 2 rfl) ?_
            have hp17 : List.Perm ([[(z16, .inr (10, [.int 0, .int 0]))]] : List va_W) ([[(z16, .inr (10, [.int 0, .int 0]))]] ++ []) := b_perm [0] [] 1 rfl rfl rfl rfl
            refine b_call (va_runI (As := [.int x2, .int x3]) (rest := [.ref z16]) ⟨hx, hb, hml, hown, hts⟩ (m_X10_init l D g H.size z16 5 (by decide) 0 0 x2 x3) (cwI 2 hts (lw_meth q659) rfl rfl rfl (hts _ q98) (hts _ q657) (hts _ q658) rfl (by decide +kernel) ⟨Nat.le_of_ble_eq_true rfl, Nat.le_of_ble_eq_true rfl⟩) (b_preS hW hp17) rfl rfl hl.1 rfl (lv_room (Nat.le_of_ble_eq_true rfl)) dX0_made_92 ⟨Nat.le_of_ble_eq_true rfl, Nat.le_of_ble_eq_true rfl⟩) hW hp17 (fun _ _ H locs hW => ?_)
            refine W.cs (cells' := 1) (slots' := 2) rfl rfl ?_
            have hW : bW D g A s H _ [[(z16, .inr (10, [.int x2, .int x3]))]] := hW
            cases hf
            exact b_aret hx hb hr (Or.inl ⟨_, rfl⟩) hlk hE hW z16 rfl trivial (Or.inr ⟨_, rfl⟩) rfl dX0_made_95
def f_X0_goer (X : BC) (N : BC) (L : List Nat) (kd : Nat → Nat) (nu : Nat → Int32) (aa : Nat → Int32) (x1 : Int32) (x2 : Int32) (x3 : Int32) (post : Int32 → BC → BC → List Nat → (Nat → Nat) → (Nat → Int32) → (Nat → Int32) → Prop) : Prop :=
 q_b1 (f_X0_isIn x1 0 5) fun (r1 : Int32) =>
 (if r1 = 0 then
 q_b2 (f_X0_no X (-2)) fun (r3 : Int32) (X4 : BC) =>
 post r3 X4 N L kd nu aa
 else
 q_b1 (f_X0_isIn x2 1 30) fun (r5 : Int32) =>
 (if r5 = 0 then
 q_b2 (f_X0_no X (-2)) fun (r7 : Int32) (X8 : BC) =>
 post r7 X8 N L kd nu aa
 else
 q_b1 (f_X0_isIn x3 0 99) fun (r9 : Int32) =>
 (if r9 = 0 then
 q_b2 (f_X0_no X (-2)) fun (r21 : Int32) (X22 : BC) =>
 post r21 X22 N L kd nu aa
 else
 (if (N.1 0 1) = 6 then
 q_b2 (f_X0_no X (-6)) fun (r19 : Int32) (X20 : BC) =>
 post r19 X20 N L kd nu aa
 else
 q_b1 (f_X0_made x1) fun (k12 : Nat) => q_al L fun (z13 : Nat) => q_lt (z13 :: L) fun (L14 : List Nat) =>
 q_lt (fun q => if q = z13 then k12 else kd q) fun (kd15 : Nat → Nat) =>
 q_lt (fun q => if q = z13 then (N.1 0 1) else nu q) fun (nu16 : Nat → Int32) =>
 q_lt (fun q => if q = z13 then x3 else aa q) fun (aa17 : Nat → Int32) =>
 q_b1 (f_X1_adds_2 N L14 kd15 nu16 aa17 z13 x2) fun (N18 : BC) =>
 post ((N18.1 0 1) - 1) X N18 L14 kd15 nu16 aa17))))
abbrev rm_X0_goer : Room := { frames := 5, cells := 1, slots := 2, locals := 112 }
set_option maxHeartbeats 4000000 in
set_option maxRecDepth 100000 in
theorem m_X0_goer (l : Launch) (D : va_G) (g : Nat → ClassId) (sz : Nat) (adX : Nat → Nat) (iX : Option Nat) (adN : Nat → Nat) (adT : Nat → Nat) (X : BC) (N : BC) (L : List Nat) (kd : Nat → Nat) (nu : Nat → Int32) (aa : Nat → Int32) (x1 : Int32) (x2 : Int32) (x3 : Int32) (post : Int32 → BC → BC → List Nat → (Nat → Nat) → (Nat → Int32) → (Nat → Int32) → Prop) (hf : f_X0_goer X N L kd nu aa x1 x2 x3 post) : bMet (S := Int32 × BC × BC × List Nat × (Nat → Nat) × (Nat → Int32) × (Nat → Int32)) l yX0_goer (ws_ yX0_goer cX0_goer 4 (some .int)) rm_X0_goer D g sz [.ref (adX 0), .int x1, .int x2, .int x3] [xW g adX (adN 0) (adT 0) iX X, vW g adN N, gW L kd nu aa] (fun u => post u.1 u.2.1 u.2.2.1 u.2.2.2.1 u.2.2.2.2.1 u.2.2.2.2.2.1 u.2.2.2.2.2.2) (fun u => some (.int u.1)) (fun u => [xW g adX (adN 0) (adT 0) iX (u.2.1), vW g adN (u.2.2.1), gW u.2.2.2.1 u.2.2.2.2.1 u.2.2.2.2.2.1 u.2.2.2.2.2.2]) := by
  refine b_met (by decide) (Nat.le_of_ble_eq_true rfl) ?_
  intro p e s m args below meth c A Q ls hx hb hml hr hlk hown hname hts hE hl hW
  revert hW; generalize s.heap = H; intro hW
  have hl : lv_has ls 4 [(0, .ref (adX 0)), (1, .int x1), (2, .int x2), (3, .int x3)] := hl
  rw [f_X0_goer] at hf
  refine lv_iload_n hx hb dX0_goer_0 rfl (lv_at hl 1 rfl) ?_
  refine lv_iconst (v := 0) hx hb dX0_goer_1 (by decide) ?_
  refine lv_iconst (v := 5) hx hb dX0_goer_2 (by decide) ?_
  obtain ⟨r1, hc1, hf⟩ := q_b1s hf
  have hp1 : List.Perm [xW g adX (adN 0) (adT 0) iX X, vW g adN N, gW L kd nu aa] ([] ++ [xW g adX (adN 0) (adT 0) iX X, vW g adN N, gW L kd nu aa]) := b_perm [] [0, 1, 2] 3 rfl rfl rfl rfl
  refine b_call0 ⟨rfl, rfl⟩ (va_runS (As := [.int x1, .int 0, .int 5]) (rest := []) ⟨hx, hb, hml, hown, hts⟩ (m_X0_isIn l D g H.size x1 0 5 r1 hc1) (va_cwS 3 hts (lw_S q344 q345 q76 q346) rfl rfl rfl (by decide +kernel) ⟨Nat.le_of_ble_eq_true rfl, Nat.le_of_ble_eq_true rfl⟩) (b_preS hW hp1) rfl rfl hl.1 rfl (lv_room (Nat.le_of_ble_eq_true rfl)) dX0_goer_3 ⟨Nat.le_of_ble_eq_true rfl, Nat.le_of_ble_eq_true rfl⟩) hW hp1 (fun _ _ H locs hW => ?_)
  have hW : bW D g A s H locs [xW g adX (adN 0) (adT 0) iX X, vW g adN N, gW L kd nu aa] := hW
  refine lv_if_eq (tgt := 29) hx hb dX0_goer_6 (by decide) (fun c2 => ?_) (fun c2 => ?_)
  · have hf := q_t hf c2
    refine lv_aload_n hx hb dX0_goer_29 rfl (lv_at hl 0 rfl) ?_
    refine lv_bipush (v := (-2)) hx hb dX0_goer_30 (by decide) ?_
    obtain ⟨r3, X4, hc4, hf⟩ := q_b2s hf
    have hp4 : List.Perm [xW g adX (adN 0) (adT 0) iX X, vW g adN N, gW L kd nu aa] ([xW g adX (adN 0) (adT 0) iX X] ++ [vW g adN N, gW L kd nu aa]) := b_perm [0] [1, 2] 3 rfl rfl rfl rfl
    refine b_call0 ⟨rfl, rfl⟩ (va_runV (As := [.int (-2)]) (rest := []) ⟨hx, hb, hml, hown, hts⟩ (m_X0_no l D g H.size adX iX adN adT X (-2) r3 X4 hc4) (cwV 1 hts (lw_V q347 q349 qs2 q76 q350) rfl rfl rfl (by decide +kernel) ⟨Nat.le_of_ble_eq_true rfl, Nat.le_of_ble_eq_true rfl⟩) (b_preV (pp := 0) (q := 0) hW hp4 rfl xW_0 rfl) rfl rfl hl.1 rfl (lv_room (Nat.le_of_ble_eq_true rfl)) dX0_goer_32 ⟨Nat.le_of_ble_eq_true rfl, Nat.le_of_ble_eq_true rfl⟩) hW hp4 (fun _ _ H locs hW => ?_)
    have hW : bW D g A s H locs [xW g adX (adN 0) (adT 0) iX X4, vW g adN N, gW L kd nu aa] := hW
    refine W.widen (k := 1) (n := 2) (by omega) (by omega) ?_
    exact b_iret hx hb hr hlk hE hW (r3, X4, N, L, kd, nu, aa) rfl hf rfl dX0_goer_35
  · have hf := q_f hf c2
    refine lv_iload_n hx hb dX0_goer_9 rfl (lv_at hl 2 rfl) ?_
    refine lv_iconst (v := 1) hx hb dX0_goer_10 (by decide) ?_
    refine lv_bipush (v := 30) hx hb dX0_goer_11 (by decide) ?_
    obtain ⟨r5, hc5, hf⟩ := q_b1s hf
    have hp5 : List.Perm [xW g adX (adN 0) (adT 0) iX X, vW g adN N, gW L kd nu aa] ([] ++ [xW g adX (adN 0) (adT 0) iX X, vW g adN N, gW L kd nu aa]) := b_perm [] [0, 1, 2] 3 rfl rfl rfl rfl
    refine b_call0 ⟨rfl, rfl⟩ (va_runS (As := [.int x2, .int 1, .int 30]) (rest := []) ⟨hx, hb, hml, hown, hts⟩ (m_X0_isIn l D g H.size x2 1 30 r5 hc5) (va_cwS 3 hts (lw_S q344 q345 q76 q346) rfl rfl rfl (by decide +kernel) ⟨Nat.le_of_ble_eq_true rfl, Nat.le_of_ble_eq_true rfl⟩) (b_preS hW hp5) rfl rfl hl.1 rfl (lv_room (Nat.le_of_ble_eq_true rfl)) dX0_goer_13 ⟨Nat.le_of_ble_eq_true rfl, Nat.le_of_ble_eq_true rfl⟩) hW hp5 (fun _ _ H locs hW => ?_)
    have hW : bW D g A s H locs [xW g adX (adN 0) (adT 0) iX X, vW g adN N, gW L kd nu aa] := hW
    refine lv_if_eq (tgt := 29) hx hb dX0_goer_16 (by decide) (fun c6 => ?_) (fun c6 => ?_)
    · have hf := q_t hf c6
      refine lv_aload_n hx hb dX0_goer_29 rfl (lv_at hl 0 rfl) ?_
      refine lv_bipush (v := (-2)) hx hb dX0_goer_30 (by decide) ?_
      obtain ⟨r7, X8, hc8, hf⟩ := q_b2s hf
      have hp8 : List.Perm [xW g adX (adN 0) (adT 0) iX X, vW g adN N, gW L kd nu aa] ([xW g adX (adN 0) (adT 0) iX X] ++ [vW g adN N, gW L kd nu aa]) := b_perm [0] [1, 2] 3 rfl rfl rfl rfl
      refine b_call0 ⟨rfl, rfl⟩ (va_runV (As := [.int (-2)]) (rest := []) ⟨hx, hb, hml, hown, hts⟩ (m_X0_no l D g H.size adX iX adN adT X (-2) r7 X8 hc8) (cwV 1 hts (lw_V q347 q349 qs2 q76 q350) rfl rfl rfl (by decide +kernel) ⟨Nat.le_of_ble_eq_true rfl, Nat.le_of_ble_eq_true rfl⟩) (b_preV (pp := 0) (q := 0) hW hp8 rfl xW_0 rfl) rfl rfl hl.1 rfl (lv_room (Nat.le_of_ble_eq_true rfl)) dX0_goer_32 ⟨Nat.le_of_ble_eq_true rfl, Nat.le_of_ble_eq_true rfl⟩) hW hp8 (fun _ _ H locs hW => ?_)
      have hW : bW D g A s H locs [xW g adX (adN 0) (adT 0) iX X8, vW g adN N, gW L kd nu aa] := hW
      refine W.widen (k := 1) (n := 2) (by omega) (by omega) ?_
      exact b_iret hx hb hr hlk hE hW (r7, X8, N, L, kd, nu, aa) rfl hf rfl dX0_goer_35
    · have hf := q_f hf c6
      refine lv_iload_n hx hb dX0_goer_19 rfl (lv_at hl 3 rfl) ?_
      refine lv_iconst (v := 0) hx hb dX0_goer_20 (by decide) ?_
      refine lv_bipush (v := 99) hx hb dX0_goer_21 (by decide) ?_
      obtain ⟨r9, hc9, hf⟩ := q_b1s hf
      have hp9 : List.Perm [xW g adX (adN 0) (adT 0) iX X, vW g adN N, gW L kd nu aa] ([] ++ [xW g adX (adN 0) (adT 0) iX X, vW g adN N, gW L kd nu aa]) := b_perm [] [0, 1, 2] 3 rfl rfl rfl rfl
      refine b_call0 ⟨rfl, rfl⟩ (va_runS (As := [.int x3, .int 0, .int 99]) (rest := []) ⟨hx, hb, hml, hown, hts⟩ (m_X0_isIn l D g H.size x3 0 99 r9 hc9) (va_cwS 3 hts (lw_S q344 q345 q76 q346) rfl rfl rfl (by decide +kernel) ⟨Nat.le_of_ble_eq_true rfl, Nat.le_of_ble_eq_true rfl⟩) (b_preS hW hp9) rfl rfl hl.1 rfl (lv_room (Nat.le_of_ble_eq_true rfl)) dX0_goer_23 ⟨Nat.le_of_ble_eq_true rfl, Nat.le_of_ble_eq_true rfl⟩) hW hp9 (fun _ _ H locs hW => ?_)
      have hW : bW D g A s H locs [xW g adX (adN 0) (adT 0) iX X, vW g adN N, gW L kd nu aa] := hW
      refine lv_if_ne (tgt := 36) hx hb dX0_goer_26 (by decide) (fun c10 => ?_) (fun c10 => ?_)
      · have hf := q_f hf c10
        refine lv_aload_n hx hb dX0_goer_36 rfl (lv_at hl 0 rfl) ?_
        refine b_get hx hb hts in_X0 hown hW 0 0 0 0 rfl xW_0 rfl (by decide) ⟨rfl, rfl, rfl⟩ (hts _ q227) xW_g0 dX0_goer_37 ?_
        refine b_get hx hb hts in_X1 hown hW 1 0 1 13 rfl vW_0 rfl (by decide) ⟨rfl, rfl, rfl⟩ (hts _ q170) vW_g13 dX0_goer_40 ?_
        refine lv_bipush (v := 6) hx hb dX0_goer_43 (by decide) ?_
        refine lv_icmp_ne (tgt := 55) hx hb dX0_goer_45 (by decide) (fun c11 => ?_) (fun c11 => ?_)
        · have hf := q_f hf c11
          refine lv_aload_n hx hb dX0_goer_55 rfl (lv_at hl 0 rfl) ?_
          refine b_get hx hb hts in_X0 hown hW 0 0 0 0 rfl xW_0 rfl (by decide) ⟨rfl, rfl, rfl⟩ (hts _ q227) xW_g0 dX0_goer_56 ?_
          refine lv_iload_n hx hb dX0_goer_59 rfl (lv_at hl 1 rfl) ?_
          refine lv_aload_n hx hb dX0_goer_60 rfl (lv_at hl 0 rfl) ?_
          refine b_get hx hb hts in_X0 hown hW 0 0 0 0 rfl xW_0 rfl (by decide) ⟨rfl, rfl, rfl⟩ (hts _ q227) xW_g0 dX0_goer_61 ?_
          refine b_get hx hb hts in_X1 hown hW 1 0 1 13 rfl vW_0 rfl (by decide) ⟨rfl, rfl, rfl⟩ (hts _ q170) vW_g13 dX0_goer_64 ?_
          refine lv_iload_n hx hb dX0_goer_67 rfl (lv_at hl 3 rfl) ?_
          obtain ⟨k12, hc12, hf⟩ := q_b1s hf
          have hp13 : List.Perm ([xW g adX (adN 0) (adT 0) iX X, vW g adN N, gW L kd nu aa] : List va_W) ([] ++ [xW g adX (adN 0) (adT 0) iX X, vW g adN N, gW L kd nu aa]) := List.Perm.refl _
          refine b_call (va_runS (As := [.int x1, .int (N.1 0 1), .int x3]) (rest := [.ref (adN 0)]) ⟨hx, hb, hml, hown, hts⟩ (m_X0_made l D g H.size x1 (N.1 0 1) x3 k12 hc12) (va_cwS 3 hts (lw_S q607 q608 q76 q609) rfl rfl rfl (by decide +kernel) ⟨Nat.le_of_ble_eq_true rfl, Nat.le_of_ble_eq_true rfl⟩) (b_preS hW hp13) rfl rfl hl.1 rfl (lv_room (Nat.le_of_ble_eq_true rfl)) dX0_goer_68 ⟨Nat.le_of_ble_eq_true rfl, Nat.le_of_ble_eq_true rfl⟩) hW hp13 (fun z13 _ H locs hW => ?_)
          refine W.cs (cells' := 1) (slots' := 2) rfl rfl ?_
          have hW : bW D g A s H _ ([(z13, .inr (5 + k12, [.int (N.1 0 1), .int x3]))] :: [xW g adX (adN 0) (adT 0) iX X, vW g adN N, gW L kd nu aa]) := hW
          have hW := b_perms hW (Bs' := gW L kd nu aa :: [(z13, .inr (5 + k12, [.int (N.1 0 1), .int x3]))] :: [xW g adX (adN 0) (adT 0) iX X, vW g adN N]) (b_ord [3, 0, 1, 2] 4 rfl rfl rfl)
          obtain ⟨hz13, hW⟩ := b_push hW
          have hf := q_als hf hz13
          obtain ⟨L14, eL14, hf⟩ := q_ls hf
          rw [eL14] at hW
          obtain ⟨kd15, ekd15, hf⟩ := q_ls hf
          rw [ekd15] at hW
          obtain ⟨nu16, enu16, hf⟩ := q_ls hf
          rw [enu16] at hW
          obtain ⟨aa17, eaa17, hf⟩ := q_ls hf
          rw [eaa17] at hW
          have hW : bW D g A s H _ [gW L14 kd15 nu16 aa17, xW g adX (adN 0) (adT 0) iX X, vW g adN N] := hW
          refine lv_iload_n hx hb dX0_goer_71 rfl (lv_at hl 2 rfl) ?_
          obtain ⟨N18, hc18, hf⟩ := q_b1s hf
          have hp18 : List.Perm [gW L14 kd15 nu16 aa17, xW g adX (adN 0) (adT 0) iX X, vW g adN N] ([vW g adN N, gW L14 kd15 nu16 aa17] ++ [xW g adX (adN 0) (adT 0) iX X]) := b_perm [2, 0] [1] 3 rfl rfl rfl rfl
          refine b_call0 ⟨rfl, rfl⟩ (va_runV (As := [.ref z13, .int x2]) (rest := []) ⟨hx, hb, hml, hown, hts⟩ (m_X1_adds_2 l D g H.size adN N L14 kd15 nu16 aa17 z13 x2 N18 hc18) (cwV 2 hts (lw_V q664 q665 q666 q77 q667) rfl rfl rfl (by decide +kernel) ⟨Nat.le_of_ble_eq_true rfl, Nat.le_of_ble_eq_true rfl⟩) (b_preV (pp := 2) (q := 0) hW hp18 rfl vW_0 rfl) rfl rfl hl.1 rfl (lv_room (Nat.le_of_ble_eq_true rfl)) dX0_goer_72 ⟨Nat.le_of_ble_eq_true rfl, Nat.le_of_ble_eq_true rfl⟩) hW hp18 (fun _ _ H locs hW => ?_)
          have hW : bW D g A s H locs [vW g adN N18, gW L14 kd15 nu16 aa17, xW g adX (adN 0) (adT 0) iX X] := hW
          refine lv_aload_n hx hb dX0_goer_75 rfl (lv_at hl 0 rfl) ?_
          refine b_get hx hb hts in_X0 hown hW 2 0 0 0 rfl xW_0 rfl (by decide) ⟨rfl, rfl, rfl⟩ (hts _ q227) xW_g0 dX0_goer_76 ?_
          refine b_get hx hb hts in_X1 hown hW 0 0 1 13 rfl vW_0 rfl (by decide) ⟨rfl, rfl, rfl⟩ (hts _ q170) vW_g13 dX0_goer_79 ?_
          refine lv_iconst (v := 1) hx hb dX0_goer_82 (by decide) ?_
          refine lv_isub hx hb dX0_goer_83 ?_
          refine W.widen (k := 1) (n := 2) (by omega) (by omega) ?_
          exact b_iret hx hb hr hlk hE (b_perms hW (b_ord [2, 0, 1] 3 rfl rfl rfl)) ((N18.1 0 1) - 1, X, N18, L14, kd15, nu16, aa17) rfl hf rfl dX0_goer_84
        · have hf := q_t hf c11
          refine lv_aload_n hx hb dX0_goer_48 rfl (lv_at hl 0 rfl) ?_
          refine lv_bipush (v := (-6)) hx hb dX0_goer_49 (by decide) ?_
          obtain ⟨r19, X20, hc20, hf⟩ := q_b2s hf
          have hp20 : List.Perm [xW g adX (adN 0) (adT 0) iX X, vW g adN N, gW L kd nu aa] ([xW g adX (adN 0) (adT 0) iX X] ++ [vW g adN N, gW L kd nu aa]) := b_perm [0] [1, 2] 3 rfl rfl rfl rfl
          refine b_call0 ⟨rfl, rfl⟩ (va_runV (As := [.int (-6)]) (rest := []) ⟨hx, hb, hml, hown, hts⟩ (m_X0_no l D g H.size adX iX adN adT X (-6) r19 X20 hc20) (cwV 1 hts (lw_V q347 q349 qs2 q76 q350) rfl rfl rfl (by decide +kernel) ⟨Nat.le_of_ble_eq_true rfl, Nat.le_of_ble_eq_true rfl⟩) (b_preV (pp := 0) (q := 0) hW hp20 rfl xW_0 rfl) rfl rfl hl.1 rfl (lv_room (Nat.le_of_ble_eq_true rfl)) dX0_goer_51 ⟨Nat.le_of_ble_eq_true rfl, Nat.le_of_ble_eq_true rfl⟩) hW hp20 (fun _ _ H locs hW => ?_)
          have hW : bW D g A s H locs [xW g adX (adN 0) (adT 0) iX X20, vW g adN N, gW L kd nu aa] := hW
          refine W.widen (k := 1) (n := 2) (by omega) (by omega) ?_
          exact b_iret hx hb hr hlk hE hW (r19, X20, N, L, kd, nu, aa) rfl hf rfl dX0_goer_54
      · have hf := q_t hf c10
        refine lv_aload_n hx hb dX0_goer_29 rfl (lv_at hl 0 rfl) ?_
        refine lv_bipush (v := (-2)) hx hb dX0_goer_30 (by decide) ?_
        obtain ⟨r21, X22, hc22, hf⟩ := q_b2s hf
        have hp22 : List.Perm [xW g adX (adN 0) (adT 0) iX X, vW g adN N, gW L kd nu aa] ([xW g adX (adN 0) (adT 0) iX X] ++ [vW g adN N, gW L kd nu aa]) := b_perm [0] [1, 2] 3 rfl rfl rfl rfl
        refine b_call0 ⟨rfl, rfl⟩ (va_runV (As := [.int (-2)]) (rest := []) ⟨hx, hb, hml, hown, hts⟩ (m_X0_no l D g H.size adX iX adN adT X (-2) r21 X22 hc22) (cwV 1 hts (lw_V q347 q349 qs2 q76 q350) rfl rfl rfl (by decide +kernel) ⟨Nat.le_of_ble_eq_true rfl, Nat.le_of_ble_eq_true rfl⟩) (b_preV (pp := 0) (q := 0) hW hp22 rfl xW_0 rfl) rfl rfl hl.1 rfl (lv_room (Nat.le_of_ble_eq_true rfl)) dX0_goer_32 ⟨Nat.le_of_ble_eq_true rfl, Nat.le_of_ble_eq_true rfl⟩) hW hp22 (fun _ _ H locs hW => ?_)
        have hW : bW D g A s H locs [xW g adX (adN 0) (adT 0) iX X22, vW g adN N, gW L kd nu aa] := hW
        refine W.widen (k := 1) (n := 2) (by omega) (by omega) ?_
        exact b_iret hx hb hr hlk hE hW (r21, X22, N, L, kd, nu, aa) rfl hf rfl dX0_goer_35
def f_X0_better_L28 (X : BC) (N : BC) (x1 : Int32) (fu : Nat) (post : Int32 → BC → BC → List Nat → (Nat → Nat) → (Nat → Int32) → (Nat → Int32) → Prop) (rec4 : (Int32 × Int32 × Int32 × BC × List Nat × (Nat → Nat) × (Nat → Int32) × (Nat → Int32)) → Prop) : Int32 × Int32 × Int32 × BC × List Nat × (Nat → Nat) × (Nat → Int32) × (Nat → Int32) → Prop
  | (v5, v6, v7, T8, L9, kd10, nu11, aa12) =>
    (if (6 : Int32) ≤ v7 then
     post v5 X T8 L9 kd10 nu11 aa12
     else
     q_ck (inB x1 6) (q_op (N.2.1 8 (ix x1)) False fun (a15 : Nat) => q_ck (gIn L9 kd10 a15) (q_b1 (f_X0_made v7) fun (k17 : Nat) => q_al L9 fun (z18 : Nat) => q_lt (z18 :: L9) fun (L19 : List Nat) =>
     q_lt (fun q => if q = z18 then k17 else kd10 q) fun (kd20 : Nat → Nat) =>
     q_lt (fun q => if q = z18 then x1 else nu11 q) fun (nu21 : Nat → Int32) =>
     q_lt (fun q => if q = z18 then (aa12 a15) else aa12 q) fun (aa22 : Nat → Int32) =>
     q_ck (gIn L19 kd20 z18) (q_lt (bR T8 8 (va_up (T8.2.1 8) (ix x1) (some z18))) fun (T24 : BC) =>
     q_b1 (f_X1_night fu T24 L19 kd20 nu21 aa22) fun (T25 : BC) =>
     q_b1 (f_X1_joy fu T25 x1) fun (r26 : Int32) =>
     (if v5 = (-1) then
     q_lt (v7 + 1) fun (v28 : Int32) =>
     rec4 (v7, r26, v28, T25, L19, kd20, nu21, aa22)
     else
     (if r26 ≤ v6 then
     q_lt (v7 + 1) fun (v30 : Int32) =>
     rec4 (v5, v6, v30, T25, L19, kd20, nu21, aa22)
     else
     q_lt (v7 + 1) fun (v31 : Int32) =>
     rec4 (v7, r26, v31, T25, L19, kd20, nu21, aa22)))))))
def f_X0_better (fu : Nat) (X : BC) (N : BC) (T : BC) (L : List Nat) (kd : Nat → Nat) (nu : Nat → Int32) (aa : Nat → Int32) (x1 : Int32) (post : Int32 → BC → BC → List Nat → (Nat → Nat) → (Nat → Int32) → (Nat → Int32) → Prop) : Prop :=
 q_b1 (f_X0_isGoer X N x1) fun (r1 : Int32) =>
 (if r1 = 0 then
 q_b2 (f_X0_no X (-2)) fun (r32 : Int32) (X33 : BC) =>
 post r32 X33 T L kd nu aa
 else
 q_b1 (f_X0_tried X N T L kd nu aa) fun (T3 : BC) =>
 q_lp (f_X0_better_L28 X N x1 fu post) fu ((-1), 0, 0, T3, L, kd, nu, aa))
abbrev rm_X0_better (fu : Nat) : Room := { frames := 7, cells := fu * 1, slots := fu * 2, locals := 164 }
set_option maxHeartbeats 4000000 in
set_option maxRecDepth 100000 in
theorem m_X0_better (l : Launch) (D : va_G) (g : Nat → ClassId) (sz : Nat) (adX : Nat → Nat) (iX : Option Nat) (adN : Nat → Nat) (adT : Nat → Nat) (fu : Nat) (X : BC) (N : BC) (T : BC) (L : List Nat) (kd : Nat → Nat) (nu : Nat → Int32) (aa : Nat → Int32) (x1 : Int32) (post : Int32 → BC → BC → List Nat → (Nat → Nat) → (Nat → Int32) → (Nat → Int32) → Prop) (hf : f_X0_better fu X N T L kd nu aa x1 post) : bMet (S := Int32 × BC × BC × List Nat × (Nat → Nat) × (Nat → Int32) × (Nat → Int32)) l yX0_better (ws_ yX0_better cX0_better 7 (some .int)) (rm_X0_better fu) D g sz [.ref (adX 0), .int x1] [xW g adX (adN 0) (adT 0) iX X, vW g adN N, vW g adT T, gW L kd nu aa] (fun u => post u.1 u.2.1 u.2.2.1 u.2.2.2.1 u.2.2.2.2.1 u.2.2.2.2.2.1 u.2.2.2.2.2.2) (fun u => some (.int u.1)) (fun u => [xW g adX (adN 0) (adT 0) iX (u.2.1), vW g adN N, vW g adT (u.2.2.1), gW u.2.2.2.1 u.2.2.2.2.1 u.2.2.2.2.2.1 u.2.2.2.2.2.2]) := by
  refine b_met (by decide) (Nat.le_of_ble_eq_true rfl) ?_
  intro p e s m args below meth c A Q ls hx hb hml hr hlk hown hname hts hE hl hW
  revert hW; generalize s.heap = H; intro hW
  have hl : lv_has ls 7 [(0, .ref (adX 0)), (1, .int x1)] := hl
  rw [f_X0_better] at hf
  refine lv_aload_n hx hb dX0_better_0 rfl (lv_at hl 0 rfl) ?_
  refine lv_iload_n hx hb dX0_better_1 rfl (lv_at hl 1 rfl) ?_
  obtain ⟨r1, hc1, hf⟩ := q_b1s hf
  have hp1 : List.Perm [xW g adX (adN 0) (adT 0) iX X, vW g adN N, vW g adT T, gW L kd nu aa] ([xW g adX (adN 0) (adT 0) iX X, vW g adN N] ++ [vW g adT T, gW L kd nu aa]) := b_perm [0, 1] [2, 3] 4 rfl rfl rfl rfl
  refine b_call0 ⟨rfl, rfl⟩ (va_runV (As := [.int x1]) (rest := []) ⟨hx, hb, hml, hown, hts⟩ (m_X0_isGoer l D g H.size adX iX adN adT X N x1 r1 hc1) (cwV 1 hts (lw_V q485 q487 qs4 q76 q488) rfl rfl rfl (by decide +kernel) ⟨Nat.le_of_ble_eq_true rfl, Nat.le_of_ble_eq_true rfl⟩) (b_preV (pp := 0) (q := 0) hW hp1 rfl xW_0 rfl) rfl rfl hl.1 rfl (lv_room (Nat.le_of_ble_eq_true rfl)) dX0_better_2 ⟨(show 0 + 0 ≤ fu * 1 from by omega), (show 0 + 0 ≤ fu * 2 from by omega)⟩) hW hp1 (fun _ _ H locs hW => ?_)
  have hW : bW D g A s H locs [xW g adX (adN 0) (adT 0) iX X, vW g adN N, vW g adT T, gW L kd nu aa] := hW
  refine lv_if_ne (tgt := 15) hx hb dX0_better_5 (by decide) (fun c2 => ?_) (fun c2 => ?_)
  · have hf := q_f hf c2
    refine lv_aload_n hx hb dX0_better_15 rfl (lv_at hl 0 rfl) ?_
    obtain ⟨T3, hc3, hf⟩ := q_b1s hf
    have hp3 : List.Perm [xW g adX (adN 0) (adT 0) iX X, vW g adN N, vW g adT T, gW L kd nu aa] ([xW g adX (adN 0) (adT 0) iX X, vW g adN N, vW g adT T, gW L kd nu aa] ++ []) := b_perm [0, 1, 2, 3] [] 4 rfl rfl rfl rfl
    refine b_call0 ⟨rfl, rfl⟩ (va_runV (As := []) (rest := []) ⟨hx, hb, hml, hown, hts⟩ (m_X0_tried l D g H.size adX iX adN adT X N T L kd nu aa T3 hc3) (cwV 0 hts (lw_V q1223 q1225 qs22 q76 q1226) rfl rfl rfl (by decide +kernel) ⟨Nat.le_of_ble_eq_true rfl, Nat.le_of_ble_eq_true rfl⟩) (b_preV (pp := 0) (q := 0) hW hp3 rfl xW_0 rfl) rfl rfl hl.1 rfl (lv_room (Nat.le_of_ble_eq_true rfl)) dX0_better_16 ⟨(show 0 + 0 ≤ fu * 1 from by omega), (show 0 + 0 ≤ fu * 2 from by omega)⟩) hW hp3 (fun _ _ H locs hW => ?_)
    have hW : bW D g A s H locs [xW g adX (adN 0) (adT 0) iX X, vW g adN N, vW g adT T3, gW L kd nu aa] := hW
    refine lv_astore_n (lv' := [(2, .ref (adT 0)), (0, .ref (adX 0)), (1, .int x1)]) hx hb dX0_better_19 rfl hl (by decide) rfl (fun ls hl => ?_)
    refine lv_iconst (v := (-1)) hx hb dX0_better_20 (by decide) ?_
    refine lv_istore_n (lv' := [(3, .int (-1)), (2, .ref (adT 0)), (0, .ref (adX 0)), (1, .int x1)]) hx hb dX0_better_21 rfl hl (by decide) rfl (fun ls hl => ?_)
    refine lv_iconst (v := 0) hx hb dX0_better_22 (by decide) ?_
    refine lv_istore (lv' := [(4, .int 0), (3, .int (-1)), (2, .ref (adT 0)), (0, .ref (adX 0)), (1, .int x1)]) hx hb dX0_better_23 hl (by decide) rfl (fun ls hl => ?_)
    refine lv_iconst (v := 0) hx hb dX0_better_25 (by decide) ?_
    refine lv_istore (lv' := [(5, .int 0), (4, .int 0), (3, .int (-1)), (2, .ref (adT 0)), (0, .ref (adX 0)), (1, .int x1)]) hx hb dX0_better_26 hl (by decide) rfl (fun ls hl => ?_)
    obtain ⟨stp4, est4, hf⟩ := q_ln hf
    have L4 : ∀ (n : Nat) (v5 : Int32) (v6 : Int32) (v7 : Int32) (T8 : BC) (L9 : List Nat) (kd10 : Nat → Nat) (nu11 : Nat → Int32) (aa12 : Nat → Int32) (cn4 sn4 : Nat) (hq4 : cn4 + n * 1 ≤ fu * 1 ∧ sn4 + n * 2 ≤ fu * 2) (H : Heap) (locs : List Loc) (ls : Array Slot), bW D g A s H locs [xW g adX (adN 0) (adT 0) iX X, vW g adN N, vW g adT T8, gW L9 kd10 nu11 aa12] → lv_has ls 7 [(5, .int v7), (4, .int v6), (3, .int v5), (2, .ref (adT 0)), (0, .ref (adX 0)), (1, .int x1)] → q_lp stp4 n (v5, v6, v7, T8, L9, kd10, nu11, aa12) → W p l e (rm_X0_better fu) s m args below meth c H locs cn4 sn4 Q (F0 m 28 ls []) := by
      intro n4
      induction n4 with
      | zero => intro v5 v6 v7 T8 L9 kd10 nu11 aa12 cn4 sn4 hq4 H locs ls hW hl hf; exact (q_lz hf).elim
      | succ n4 ih4 =>
        intro v5 v6 v7 T8 L9 kd10 nu11 aa12 cn4 sn4 hq4 H locs ls hW hl hf
        have hf := q_lu est4 hf
        rw [f_X0_better_L28] at hf
        refine lv_iload hx hb dX0_better_28 (lv_at hl 0 rfl) ?_
        refine lv_bipush (v := 6) hx hb dX0_better_30 (by decide) ?_
        refine lv_icmp_ge (tgt := 94) hx hb dX0_better_32 (by decide) (fun c13 => ?_) (fun c13 => ?_)
        · have hf := q_t hf c13
          refine lv_iload_n hx hb dX0_better_94 rfl (lv_at hl 2 rfl) ?_
          refine W.widen (k := fu * 1) (n := fu * 2) (by have := hq4; omega) (by have := hq4; omega) ?_
          exact b_iret hx hb hr hlk hE hW (v5, X, T8, L9, kd10, nu11, aa12) rfl hf rfl dX0_better_95
        · have hf := q_f hf c13
          refine lv_aload_n hx hb dX0_better_35 rfl (lv_at hl 3 rfl) ?_
          refine b_get hx hb hts in_X1 hown hW 2 0 1 7 rfl vW_0 rfl (by decide) ⟨rfl, rfl, rfl⟩ (hts _ q154) vW_g7 dX0_better_36 ?_
          refine lv_iload_n hx hb dX0_better_39 rfl (lv_at hl 5 rfl) ?_
          refine lv_iload hx hb dX0_better_40 (lv_at hl 0 rfl) ?_
          refine lv_iload_n hx hb dX0_better_42 rfl (lv_at hl 5 rfl) ?_
          refine lv_aload_n hx hb dX0_better_43 rfl (lv_at hl 4 rfl) ?_
          refine b_get hx hb hts in_X0 hown hW 0 0 0 0 rfl xW_0 rfl (by decide) ⟨rfl, rfl, rfl⟩ (hts _ q227) xW_g0 dX0_better_44 ?_
          refine b_get hx hb hts in_X1 hown hW 1 0 1 7 rfl vW_0 rfl (by decide) ⟨rfl, rfl, rfl⟩ (hts _ q154) vW_g7 dX0_better_47 ?_
          refine lv_iload_n hx hb dX0_better_50 rfl (lv_at hl 5 rfl) ?_
          obtain ⟨h14, hf⟩ := q_cs hf
          refine b_aald hx hb hW 1 8 5 rfl vW_8 rfl h14 dX0_better_51 ?_
          refine b_split (fun hrf => by cases (q_opn hf hrf)) (fun a15 hrf => ?_)
          have hf := q_ops hf hrf
          obtain ⟨h16, hf⟩ := q_cs hf
          refine b_getA hx hb hts hown hW 3 rfl h16 (hts _ q622) (fun _ h => h) dX0_better_52 ?_
          obtain ⟨k17, hc17, hf⟩ := q_b1s hf
          have hp18 : List.Perm ([xW g adX (adN 0) (adT 0) iX X, vW g adN N, vW g adT T8, gW L9 kd10 nu11 aa12] : List va_W) ([] ++ [xW g adX (adN 0) (adT 0) iX X, vW g adN N, vW g adT T8, gW L9 kd10 nu11 aa12]) := List.Perm.refl _
          refine b_call (va_runS (As := [.int v7, .int x1, .int (aa12 a15)]) (rest := [.int x1, .ref (adT 8)]) ⟨hx, hb, hml, hown, hts⟩ (m_X0_made l D g H.size v7 x1 (aa12 a15) k17 hc17) (va_cwS 3 hts (lw_S q607 q608 q76 q609) rfl rfl rfl (by decide +kernel) ⟨Nat.le_of_ble_eq_true rfl, Nat.le_of_ble_eq_true rfl⟩) (b_preS hW hp18) rfl rfl hl.1 rfl (lv_room (Nat.le_of_ble_eq_true rfl)) dX0_better_55 ⟨(show cn4 + 1 ≤ fu * 1 from by have := hq4; omega), (show sn4 + 2 ≤ fu * 2 from by have := hq4; omega)⟩) hW hp18 (fun z18 _ H locs hW => ?_)
          refine W.cs (cells' := (cn4 + 1)) (slots' := (sn4 + 2)) rfl rfl ?_
          have hW : bW D g A s H _ ([(z18, .inr (5 + k17, [.int x1, .int (aa12 a15)]))] :: [xW g adX (adN 0) (adT 0) iX X, vW g adN N, vW g adT T8, gW L9 kd10 nu11 aa12]) := hW
          have hW := b_perms hW (Bs' := gW L9 kd10 nu11 aa12 :: [(z18, .inr (5 + k17, [.int x1, .int (aa12 a15)]))] :: [xW g adX (adN 0) (adT 0) iX X, vW g adN N, vW g adT T8]) (b_ord [4, 0, 1, 2, 3] 5 rfl rfl rfl)
          obtain ⟨hz18, hW⟩ := b_push hW
          have hf := q_als hf hz18
          obtain ⟨L19, eL19, hf⟩ := q_ls hf
          rw [eL19] at hW
          obtain ⟨kd20, ekd20, hf⟩ := q_ls hf
          rw [ekd20] at hW
          obtain ⟨nu21, enu21, hf⟩ := q_ls hf
          rw [enu21] at hW
          obtain ⟨aa22, eaa22, hf⟩ := q_ls hf
          rw [eaa22] at hW
          have hW : bW D g A s H _ [gW L19 kd20 nu21 aa22, xW g adX (adN 0) (adT 0) iX X, vW g adN N, vW g adT T8] := hW
          obtain ⟨h23, hf⟩ := q_cs hf
          obtain ⟨T24, eT24, hf⟩ := q_ls hf
          refine b_astG hx hb hW 3 8 0 rfl rfl h23 vW_8 (vW_s8 eT24) rfl h14 dX0_better_58 (fun H locs hW => ?_)
          have hW : bW D g A s H locs [gW L19 kd20 nu21 aa22, xW g adX (adN 0) (adT 0) iX X, vW g adN N, vW g adT T24] := hW
          refine lv_aload_n hx hb dX0_better_59 rfl (lv_at hl 3 rfl) ?_
          obtain ⟨T25, hc25, hf⟩ := q_b1s hf
          have hp25 : List.Perm [gW L19 kd20 nu21 aa22, xW g adX (adN 0) (adT 0) iX X, vW g adN N, vW g adT T24] ([vW g adT T24, gW L19 kd20 nu21 aa22] ++ [xW g adX (adN 0) (adT 0) iX X, vW g adN N]) := b_perm [3, 0] [1, 2] 4 rfl rfl rfl rfl
          refine b_call0 ⟨rfl, rfl⟩ (va_runV (As := []) (rest := []) ⟨hx, hb, hml, hown, hts⟩ (m_X1_night l D g H.size adT fu T24 L19 kd20 nu21 aa22 T25 hc25) (cwV 0 hts (lw_V q1135 q1136 q1137 q77 q1138) rfl rfl rfl (by decide +kernel) ⟨Nat.le_of_ble_eq_true rfl, Nat.le_of_ble_eq_true rfl⟩) (b_preV (pp := 3) (q := 0) hW hp25 rfl vW_0 rfl) rfl rfl hl.1 rfl (lv_room (Nat.le_of_ble_eq_true rfl)) dX0_better_60 ⟨(show (cn4 + 1) + 0 ≤ fu * 1 from by have := hq4; omega), (show (sn4 + 2) + 0 ≤ fu * 2 from by have := hq4; omega)⟩) hW hp25 (fun _ _ H locs hW => ?_)
          have hW : bW D g A s H locs [vW g adT T25, gW L19 kd20 nu21 aa22, xW g adX (adN 0) (adT 0) iX X, vW g adN N] := hW
          refine lv_iload_n hx hb dX0_better_63 rfl (lv_at hl 5 rfl) ?_
          obtain ⟨r26, hc26, hf⟩ := q_b1s hf
          have hp26 : List.Perm [vW g adT T25, gW L19 kd20 nu21 aa22, xW g adX (adN 0) (adT 0) iX X, vW g adN N] ([vW g adT T25] ++ [gW L19 kd20 nu21 aa22, xW g adX (adN 0) (adT 0) iX X, vW g adN N]) := b_perm [0] [1, 2, 3] 4 rfl rfl rfl rfl
          refine b_call0 ⟨rfl, rfl⟩ (va_runV (As := [.int x1]) (rest := []) ⟨hx, hb, hml, hown, hts⟩ (m_X1_joy l D g H.size adT fu T25 x1 r26 hc26) (cwV 1 hts (lw_V q1188 q1189 q1190 q77 q1191) rfl rfl rfl (by decide +kernel) ⟨Nat.le_of_ble_eq_true rfl, Nat.le_of_ble_eq_true rfl⟩) (b_preV (pp := 0) (q := 0) hW hp26 rfl vW_0 rfl) rfl rfl hl.1 rfl (lv_room (Nat.le_of_ble_eq_true rfl)) dX0_better_64 ⟨(show (cn4 + 1) + 0 ≤ fu * 1 from by have := hq4; omega), (show (sn4 + 2) + 0 ≤ fu * 2 from by have := hq4; omega)⟩) hW hp26 (fun _ _ H locs hW => ?_)
          have hW : bW D g A s H locs [vW g adT T25, gW L19 kd20 nu21 aa22, xW g adX (adN 0) (adT 0) iX X, vW g adN N] := hW
          refine lv_istore (lv' := [(6, .int r26), (5, .int v7), (4, .int v6), (3, .int v5), (2, .ref (adT 0)), (0, .ref (adX 0)), (1, .int x1)]) hx hb dX0_better_67 hl (by decide) rfl (fun ls hl => ?_)
          refine lv_iload_n hx hb dX0_better_69 rfl (lv_at hl 3 rfl) ?_
          refine lv_iconst (v := (-1)) hx hb dX0_better_70 (by decide) ?_
          refine lv_icmp_eq (tgt := 81) hx hb dX0_better_71 (by decide) (fun c27 => ?_) (fun c27 => ?_)
          · have hf := q_t hf c27
            refine lv_iload hx hb dX0_better_81 (lv_at hl 1 rfl) ?_
            refine lv_istore_n (lv' := [(3, .int v7), (6, .int r26), (5, .int v7), (4, .int v6), (2, .ref (adT 0)), (0, .ref (adX 0)), (1, .int x1)]) hx hb dX0_better_83 rfl hl (by decide) rfl (fun ls hl => ?_)
            refine lv_iload hx hb dX0_better_84 (lv_at hl 1 rfl) ?_
            refine lv_istore (lv' := [(4, .int r26), (3, .int v7), (6, .int r26), (5, .int v7), (2, .ref (adT 0)), (0, .ref (adX 0)), (1, .int x1)]) hx hb dX0_better_86 hl (by decide) rfl (fun ls hl => ?_)
            obtain ⟨v28, ev28, hf⟩ := q_ls hf
            refine lv_iinc (v := v28) (lv' := [(5, .int v28), (4, .int r26), (3, .int v7), (6, .int r26), (2, .ref (adT 0)), (0, .ref (adX 0)), (1, .int x1)]) hx hb dX0_better_88 hl (k := 3) rfl ev28 (by decide) rfl (fun ls hl => ?_)
            refine lv_goto (tgt := 28) hx hb dX0_better_91 (by decide) ?_
            exact ih4 _ _ _ _ _ _ _ _ ((cn4 + 1)) ((sn4 + 2)) (by have := hq4; constructor <;> omega) _ _ _ (b_perms hW (b_ord [2, 3, 0, 1] 4 rfl rfl rfl)) (lv_sub hl [0, 1, 2, 4, 5, 6] rfl) hf
          · have hf := q_f hf c27
            refine lv_iload hx hb dX0_better_74 (lv_at hl 0 rfl) ?_
            refine lv_iload hx hb dX0_better_76 (lv_at hl 2 rfl) ?_
            refine lv_icmp_le (tgt := 88) hx hb dX0_better_78 (by decide) (fun c29 => ?_) (fun c29 => ?_)
            · have hf := q_t hf c29
              obtain ⟨v30, ev30, hf⟩ := q_ls hf
              refine lv_iinc (v := v30) (lv' := [(5, .int v30), (6, .int r26), (4, .int v6), (3, .int v5), (2, .ref (adT 0)), (0, .ref (adX 0)), (1, .int x1)]) hx hb dX0_better_88 hl (k := 1) rfl ev30 (by decide) rfl (fun ls hl => ?_)
              refine lv_goto (tgt := 28) hx hb dX0_better_91 (by decide) ?_
              exact ih4 _ _ _ _ _ _ _ _ ((cn4 + 1)) ((sn4 + 2)) (by have := hq4; constructor <;> omega) _ _ _ (b_perms hW (b_ord [2, 3, 0, 1] 4 rfl rfl rfl)) (lv_sub hl [0, 2, 3, 4, 5, 6] rfl) hf
            · have hf := q_f hf c29
              refine lv_iload hx hb dX0_better_81 (lv_at hl 1 rfl) ?_
              refine lv_istore_n (lv' := [(3, .int v7), (6, .int r26), (5, .int v7), (4, .int v6), (2, .ref (adT 0)), (0, .ref (adX 0)), (1, .int x1)]) hx hb dX0_better_83 rfl hl (by decide) rfl (fun ls hl => ?_)
              refine lv_iload hx hb dX0_better_84 (lv_at hl 1 rfl) ?_
              refine lv_istore (lv' := [(4, .int r26), (3, .int v7), (6, .int r26), (5, .int v7), (2, .ref (adT 0)), (0, .ref (adX 0)), (1, .int x1)]) hx hb dX0_better_86 hl (by decide) rfl (fun ls hl => ?_)
              obtain ⟨v31, ev31, hf⟩ := q_ls hf
              refine lv_iinc (v := v31) (lv' := [(5, .int v31), (4, .int r26), (3, .int v7), (6, .int r26), (2, .ref (adT 0)), (0, .ref (adX 0)), (1, .int x1)]) hx hb dX0_better_88 hl (k := 3) rfl ev31 (by decide) rfl (fun ls hl => ?_)
              refine lv_goto (tgt := 28) hx hb dX0_better_91 (by decide) ?_
              exact ih4 _ _ _ _ _ _ _ _ ((cn4 + 1)) ((sn4 + 2)) (by have := hq4; constructor <;> omega) _ _ _ (b_perms hW (b_ord [2, 3, 0, 1] 4 rfl rfl rfl)) (lv_sub hl [0, 1, 2, 4, 5, 6] rfl) hf
    exact L4 _ _ _ _ _ _ _ _ _ (0) (0) (⟨Nat.le_of_eq (Nat.zero_add _), Nat.le_of_eq (Nat.zero_add _)⟩) _ _ _ hW (lv_sub hl [0, 1, 2, 3, 4, 5] rfl) hf
  · have hf := q_t hf c2
    refine lv_aload_n hx hb dX0_better_8 rfl (lv_at hl 0 rfl) ?_
    refine lv_bipush (v := (-2)) hx hb dX0_better_9 (by decide) ?_
    obtain ⟨r32, X33, hc33, hf⟩ := q_b2s hf
    have hp33 : List.Perm [xW g adX (adN 0) (adT 0) iX X, vW g adN N, vW g adT T, gW L kd nu aa] ([xW g adX (adN 0) (adT 0) iX X] ++ [vW g adN N, vW g adT T, gW L kd nu aa]) := b_perm [0] [1, 2, 3] 4 rfl rfl rfl rfl
    refine b_call0 ⟨rfl, rfl⟩ (va_runV (As := [.int (-2)]) (rest := []) ⟨hx, hb, hml, hown, hts⟩ (m_X0_no l D g H.size adX iX adN adT X (-2) r32 X33 hc33) (cwV 1 hts (lw_V q347 q349 qs2 q76 q350) rfl rfl rfl (by decide +kernel) ⟨Nat.le_of_ble_eq_true rfl, Nat.le_of_ble_eq_true rfl⟩) (b_preV (pp := 0) (q := 0) hW hp33 rfl xW_0 rfl) rfl rfl hl.1 rfl (lv_room (Nat.le_of_ble_eq_true rfl)) dX0_better_11 ⟨(show 0 + 0 ≤ fu * 1 from by omega), (show 0 + 0 ≤ fu * 2 from by omega)⟩) hW hp33 (fun _ _ H locs hW => ?_)
    have hW : bW D g A s H locs [xW g adX (adN 0) (adT 0) iX X33, vW g adN N, vW g adT T, gW L kd nu aa] := hW
    refine W.widen (k := fu * 1) (n := fu * 2) (by omega) (by omega) ?_
    exact b_iret hx hb hr hlk hE hW (r32, X33, T, L, kd, nu, aa) rfl hf rfl dX0_better_14
