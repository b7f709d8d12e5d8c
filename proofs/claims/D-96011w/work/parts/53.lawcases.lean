/-! THE LAW: its case by number: printed by gen/lawg.py -/
set_option maxRecDepth 100000
/-- a case by its number -/
def lf (k : Nat) (g : Nat → Nat) (X : BC) (N : BC) (T : BC) (Yo : Option BC) (L : List Nat) (kd : Nat → Nat) (nu : Nat → Int32) (aa : Nat → Int32) (LR : List Nat) (so : Nat → Nat) (rn : Nat → Nat) (ri : Nat → Nat → Int32) (rl : Nat → Nat → Int64) (M : BC) (Ko : Option BC) (To : Option BC) (x1 : Int32) (x2 : Int32) (x3 : Int32) (x4 : Int32) (x5 : Int32) (post : lwPT) : Prop := match k with
  | 0 => ∃ fu : Nat, lf_0 fu X N T Yo L kd nu aa LR so rn ri rl M Ko To x1 x2 x3 post
  | 1 => lf_1 X N T Yo L kd nu aa LR so rn ri rl M Ko To x1 x2 x3 x4 post
  | 2 => ∃ fu : Nat, lf_2 fu X N T Yo L kd nu aa LR so rn ri rl M Ko To x1 x2 x3 x4 x5 post
  | 3 => lf_3 X N T Yo L kd nu aa LR so rn ri rl M Ko To x1 x2 post
  | 4 => lf_4 X N T Yo L kd nu aa LR so rn ri rl M Ko To x1 post
  | 5 => lf_5 X N T Yo L kd nu aa LR so rn ri rl M Ko To x1 x2 post
  | 6 => ∃ fu : Nat, lf_6 fu X N T Yo L kd nu aa LR so rn ri rl M Ko To x1 x2 post
  | 7 => lf_7 X N T Yo L kd nu aa LR so rn ri rl M Ko To x1 x2 x3 post
  | 8 => lf_8 X N T Yo L kd nu aa LR so rn ri rl M Ko To x1 x2 x3 post
  | 9 => lf_9 X N T Yo L kd nu aa LR so rn ri rl M Ko To x1 x2 x3 post
  | 10 => lf_10 X N T Yo L kd nu aa LR so rn ri rl M Ko To x1 x2 post
  | 11 => ∃ fu : Nat, lf_11 fu X N T Yo L kd nu aa LR so rn ri rl M Ko To x1 post
  | 12 => lf_12 X N T Yo L kd nu aa LR so rn ri rl M Ko To x1 x2 post
  | 13 => lf_13 X N T Yo L kd nu aa LR so rn ri rl M Ko To x1 post
  | 14 => lf_14 X N T Yo L kd nu aa LR so rn ri rl M Ko To x1 x2 post
  | 15 => lf_15 X N T Yo L kd nu aa LR so rn ri rl M Ko To x1 post
  | 16 => lf_16 X N T Yo L kd nu aa LR so rn ri rl M Ko To  post
  | 17 => ∃ fu : Nat, lf_17 fu g X N T Yo L kd nu aa LR so rn ri rl M Ko To  post
  | 18 => lf_18 X N T Yo L kd nu aa LR so rn ri rl M Ko To x1 x2 post
  | 19 => lf_19 X N T Yo L kd nu aa LR so rn ri rl M Ko To x1 x2 post
  | 20 => lf_20 X N T Yo L kd nu aa LR so rn ri rl M Ko To x1 x2 post
  | 21 => ∃ fu : Nat, lf_21 fu X N T Yo L kd nu aa LR so rn ri rl M Ko To x1 x2 post
  | 22 => ∃ fu : Nat, lf_22 fu X N T Yo L kd nu aa LR so rn ri rl M Ko To x1 post
  | 23 => ∃ fu : Nat, lf_23 fu X N T Yo L kd nu aa LR so rn ri rl M Ko To x1 post
  | 24 => ∃ fu : Nat, lf_24 fu X N T Yo L kd nu aa LR so rn ri rl M Ko To  post
  | 25 => ∃ fu : Nat, lf_25 fu X N T Yo L kd nu aa LR so rn ri rl M Ko To x1 post
  | 26 => ∃ fu : Nat, lf_26 fu X N T Yo L kd nu aa LR so rn ri rl M Ko To x1 post
  | 27 => ∃ fu : Nat, lf_27 fu X N T Yo L kd nu aa LR so rn ri rl M Ko To x1 post
  | 28 => lf_28 X N T Yo L kd nu aa LR so rn ri rl M Ko To x1 post
  | 29 => ∃ fu : Nat, lf_29 fu X N T Yo L kd nu aa LR so rn ri rl M Ko To  post
  | 30 => ∃ fu : Nat, lf_30 fu X N T Yo L kd nu aa LR so rn ri rl M Ko To  post
  | 31 => ∃ fu : Nat, lf_31 fu X N T Yo L kd nu aa LR so rn ri rl M Ko To x1 post
  | 32 => ∃ fu : Nat, fu ≤ 300 ∧ lf_32 fu X N T Yo L kd nu aa LR so rn ri rl M Ko To x1 post
  | 33 => ∃ fu : Nat, lf_33 fu X N T Yo L kd nu aa LR so rn ri rl M Ko To x1 post
  | 34 => ∃ fu : Nat, lf_34 fu X N T Yo L kd nu aa LR so rn ri rl M Ko To x1 post
  | 35 => lf_35 X N T Yo L kd nu aa LR so rn ri rl M Ko To x1 x2 x3 post
  | 36 => ∃ fu : Nat, lf_36 fu X N T Yo L kd nu aa LR so rn ri rl M Ko To x1 x2 post
  | 37 => ∃ fu : Nat, fu ≤ 300 ∧ lf_37 fu X N T Yo L kd nu aa LR so rn ri rl M Ko To x1 post
  | 38 => ∃ fu : Nat, lf_38 fu X N T Yo L kd nu aa LR so rn ri rl M Ko To x1 x2 post
  | 39 => ∃ fu : Nat, lf_39 fu X N T Yo L kd nu aa LR so rn ri rl M Ko To x1 x2 x3 post
  | 40 => ∃ fu : Nat, lf_40 fu X N T Yo L kd nu aa LR so rn ri rl M Ko To x1 x2 post
  | 41 => ∃ fu : Nat, lf_41 fu X N T Yo L kd nu aa LR so rn ri rl M Ko To x1 x2 post
  | 42 => ∃ fu : Nat, lf_42 fu X N T Yo L kd nu aa LR so rn ri rl M Ko To x1 post
  | 43 => ∃ fu : Nat, lf_43 fu X N T Yo L kd nu aa LR so rn ri rl M Ko To x1 x2 post
  | 44 => ∃ fu : Nat, lf_44 fu X N T Yo L kd nu aa LR so rn ri rl M Ko To x1 x2 post
  | 45 => ∃ fu : Nat, lf_45 fu X N T Yo L kd nu aa LR so rn ri rl M Ko To x1 x2 x3 post
  | 46 => ∃ fu : Nat, lf_46 fu X N T Yo L kd nu aa LR so rn ri rl M Ko To x1 x2 post
  | 47 => ∃ fu : Nat, lf_47 fu X N T Yo L kd nu aa LR so rn ri rl M Ko To x1 x2 x3 x4 post
  | 48 => ∃ fu : Nat, lf_48 fu X N T Yo L kd nu aa LR so rn ri rl M Ko To x1 post
  | 49 => ∃ fu : Nat, lf_49 fu X N T Yo L kd nu aa LR so rn ri rl M Ko To x1 x2 post
  | 50 => ∃ fu : Nat, lf_50 fu X N T Yo L kd nu aa LR so rn ri rl M Ko To  post
  | 51 => ∃ fu : Nat, lf_51 fu X N T Yo L kd nu aa LR so rn ri rl M Ko To x1 post
  | 52 => ∃ fu : Nat, lf_52 fu X N T Yo L kd nu aa LR so rn ri rl M Ko To x1 post
  | 53 => lf_53 X N T Yo L kd nu aa LR so rn ri rl M Ko To x1 post
  | 54 => ∃ fu : Nat, lf_54 fu X N T Yo L kd nu aa LR so rn ri rl M Ko To  post
  | 55 => ∃ fu : Nat, lf_55 fu X N T Yo L kd nu aa LR so rn ri rl M Ko To  post
  | 56 => ∃ fu : Nat, lf_56 fu X N T Yo L kd nu aa LR so rn ri rl M Ko To x1 post
  | _ => post X N T Yo L kd nu aa LR so rn ri rl M Ko To
set_option maxHeartbeats 4000000 in
set_option maxRecDepth 100000 in
theorem lc_all {p : Program} {l : Launch} {e : Env} {s : State} {m : MethodId} {below : List Frame} {meth : Method} {c : Code} {H : Heap} {locs : List Loc} {cells slots b len n : Nat} {Q : State → Prop} {xs : Nat → Int32} {adX adT adM adN : Nat → Nat} {tY tK tQ : Option ((Nat → Nat) × BC)} {ls : Array Slot} {D : va_G} {g : Nat → ClassId} {A : Nat → Prop} {X N T : BC} {L : List Nat} {kd : Nat → Nat} {nu aa : Nat → Int32} {LR : List Nat} {so rn : Nat → Nat} {ri : Nat → Nat → Int32} {rl : Nat → Nat → Int64} {M : BC} {post : lwPT} (C : lwC p l s m b c A ls adX adM len n xs) (hcs : cells + 10000 ≤ 1200384 ∧ slots + 80000 ≤ 5497258) (hW : bW D g A s H locs (lwB g adX adN adT tY adM tK tQ X N T L kd nu aa LR so rn ri rl M)) {k : Nat} (hk : k < 64) (hv : xs n &&& 63 = nI k) (hf : lf k g X N T (tY.map Prod.snd) L kd nu aa LR so rn ri rl M (tK.map Prod.snd) (tQ.map Prod.snd) (xs (n + 1)) (xs (n + 2)) (xs (n + 3)) (xs (n + 4)) (xs (n + 5)) post) (kk : lwK p l e s m b below meth c D g A adX adT adM ls Q cells slots post) : W p l e room_1 s m #[.ref b] below meth c H locs cells slots Q (F0 m 27 ls []) := by
  have C0 := C
  obtain ⟨hx, hb, hml, hown, hts, hst, hX, hbl, hbA, h1, h2, hl⟩ := C0
  refine lv_aload_n hx hb dL_law_27 rfl (lv_at hl 0 rfl) ?_
  refine lv_iload_n hx hb dL_law_28 rfl (lv_at hl 3 rfl) ?_
  refine va_sld hx hb hX hbl hbA hW.2.2.2.1 (lw_in_ok (k := 0) h1 h2 (by decide)) dL_law_29 ?_
  have e5 : (nI n).toNatClampNeg = n := ix_nI (by omega)
  rw [e5]
  refine lv_bipush (v := 63) hx hb dL_law_30 (by decide) ?_
  refine lv_iand hx hb dL_law_32 ?_
  rw [hv]
  by_cases c0 : k = 0
  · subst c0
    refine lv_tableIn (off := 243) (tgt := 276) hx hb dL_law_33 (by decide) (by decide) rfl (by decide) ?_
    obtain ⟨fu, hf⟩ := hf
    exact lc_0 C hcs hW hf kk
  by_cases c1 : k = 1
  · subst c1
    refine lv_tableIn (off := 286) (tgt := 319) hx hb dL_law_33 (by decide) (by decide) rfl (by decide) ?_
    exact lc_1 (fu := 0) C hcs hW hf kk
  by_cases c2 : k = 2
  · subst c2
    refine lv_tableIn (off := 359) (tgt := 392) hx hb dL_law_33 (by decide) (by decide) rfl (by decide) ?_
    obtain ⟨fu, hf⟩ := hf
    exact lc_2 C hcs hW hf kk
  by_cases c3 : k = 3
  · subst c3
    refine lv_tableIn (off := 422) (tgt := 455) hx hb dL_law_33 (by decide) (by decide) rfl (by decide) ?_
    exact lc_3 (fu := 0) C hcs hW hf kk
  by_cases c4 : k = 4
  · subst c4
    refine lv_tableIn (off := 456) (tgt := 489) hx hb dL_law_33 (by decide) (by decide) rfl (by decide) ?_
    exact lc_4 (fu := 0) C hcs hW hf kk
  by_cases c5 : k = 5
  · subst c5
    refine lv_tableIn (off := 479) (tgt := 512) hx hb dL_law_33 (by decide) (by decide) rfl (by decide) ?_
    exact lc_5 (fu := 0) C hcs hW hf kk
  by_cases c6 : k = 6
  · subst c6
    refine lv_tableIn (off := 512) (tgt := 545) hx hb dL_law_33 (by decide) (by decide) rfl (by decide) ?_
    obtain ⟨fu, hf⟩ := hf
    exact lc_6 C hcs hW hf kk
  by_cases c7 : k = 7
  · subst c7
    refine lv_tableIn (off := 545) (tgt := 578) hx hb dL_law_33 (by decide) (by decide) rfl (by decide) ?_
    exact lc_7 (fu := 0) C hcs hW hf kk
  by_cases c8 : k = 8
  · subst c8
    refine lv_tableIn (off := 588) (tgt := 621) hx hb dL_law_33 (by decide) (by decide) rfl (by decide) ?_
    exact lc_8 (fu := 0) C hcs hW hf kk
  by_cases c9 : k = 9
  · subst c9
    refine lv_tableIn (off := 631) (tgt := 664) hx hb dL_law_33 (by decide) (by decide) rfl (by decide) ?_
    exact lc_9 (fu := 0) C hcs hW hf kk
  by_cases c10 : k = 10
  · subst c10
    refine lv_tableIn (off := 674) (tgt := 707) hx hb dL_law_33 (by decide) (by decide) rfl (by decide) ?_
    exact lc_10 (fu := 0) C hcs hW hf kk
  by_cases c11 : k = 11
  · subst c11
    refine lv_tableIn (off := 707) (tgt := 740) hx hb dL_law_33 (by decide) (by decide) rfl (by decide) ?_
    obtain ⟨fu, hf⟩ := hf
    exact lc_11 C hcs hW hf kk
  by_cases c12 : k = 12
  · subst c12
    refine lv_tableIn (off := 730) (tgt := 763) hx hb dL_law_33 (by decide) (by decide) rfl (by decide) ?_
    exact lc_12 (fu := 0) C hcs hW hf kk
  by_cases c13 : k = 13
  · subst c13
    refine lv_tableIn (off := 763) (tgt := 796) hx hb dL_law_33 (by decide) (by decide) rfl (by decide) ?_
    exact lc_13 (fu := 0) C hcs hW hf kk
  by_cases c14 : k = 14
  · subst c14
    refine lv_tableIn (off := 786) (tgt := 819) hx hb dL_law_33 (by decide) (by decide) rfl (by decide) ?_
    exact lc_14 (fu := 0) C hcs hW hf kk
  by_cases c15 : k = 15
  · subst c15
    refine lv_tableIn (off := 819) (tgt := 852) hx hb dL_law_33 (by decide) (by decide) rfl (by decide) ?_
    exact lc_15 (fu := 0) C hcs hW hf kk
  by_cases c16 : k = 16
  · subst c16
    refine lv_tableIn (off := 842) (tgt := 875) hx hb dL_law_33 (by decide) (by decide) rfl (by decide) ?_
    exact lc_16 (fu := 0) C hcs hW hf kk
  by_cases c17 : k = 17
  · subst c17
    refine lv_tableIn (off := 855) (tgt := 888) hx hb dL_law_33 (by decide) (by decide) rfl (by decide) ?_
    obtain ⟨fu, hf⟩ := hf
    exact lc_17 C hcs hW hf kk
  by_cases c18 : k = 18
  · subst c18
    refine lv_tableIn (off := 868) (tgt := 901) hx hb dL_law_33 (by decide) (by decide) rfl (by decide) ?_
    exact lc_18 (fu := 0) C hcs hW hf kk
  by_cases c19 : k = 19
  · subst c19
    refine lv_tableIn (off := 901) (tgt := 934) hx hb dL_law_33 (by decide) (by decide) rfl (by decide) ?_
    exact lc_19 (fu := 0) C hcs hW hf kk
  by_cases c20 : k = 20
  · subst c20
    refine lv_tableIn (off := 934) (tgt := 967) hx hb dL_law_33 (by decide) (by decide) rfl (by decide) ?_
    exact lc_20 (fu := 0) C hcs hW hf kk
  by_cases c21 : k = 21
  · subst c21
    refine lv_tableIn (off := 967) (tgt := 1000) hx hb dL_law_33 (by decide) (by decide) rfl (by decide) ?_
    obtain ⟨fu, hf⟩ := hf
    exact lc_21 C hcs hW hf kk
  by_cases c22 : k = 22
  · subst c22
    refine lv_tableIn (off := 1000) (tgt := 1033) hx hb dL_law_33 (by decide) (by decide) rfl (by decide) ?_
    obtain ⟨fu, hf⟩ := hf
    exact lc_22 C hcs hW hf kk
  by_cases c23 : k = 23
  · subst c23
    refine lv_tableIn (off := 1023) (tgt := 1056) hx hb dL_law_33 (by decide) (by decide) rfl (by decide) ?_
    obtain ⟨fu, hf⟩ := hf
    exact lc_23 C hcs hW hf kk
  by_cases c24 : k = 24
  · subst c24
    refine lv_tableIn (off := 1046) (tgt := 1079) hx hb dL_law_33 (by decide) (by decide) rfl (by decide) ?_
    obtain ⟨fu, hf⟩ := hf
    exact lc_24 C hcs hW hf kk
  by_cases c25 : k = 25
  · subst c25
    refine lv_tableIn (off := 1059) (tgt := 1092) hx hb dL_law_33 (by decide) (by decide) rfl (by decide) ?_
    obtain ⟨fu, hf⟩ := hf
    exact lc_25 C hcs hW hf kk
  by_cases c26 : k = 26
  · subst c26
    refine lv_tableIn (off := 1082) (tgt := 1115) hx hb dL_law_33 (by decide) (by decide) rfl (by decide) ?_
    obtain ⟨fu, hf⟩ := hf
    exact lc_26 C hcs hW hf kk
  by_cases c27 : k = 27
  · subst c27
    refine lv_tableIn (off := 1105) (tgt := 1138) hx hb dL_law_33 (by decide) (by decide) rfl (by decide) ?_
    obtain ⟨fu, hf⟩ := hf
    exact lc_27 C hcs hW hf kk
  by_cases c28 : k = 28
  · subst c28
    refine lv_tableIn (off := 1128) (tgt := 1161) hx hb dL_law_33 (by decide) (by decide) rfl (by decide) ?_
    exact lc_28 (fu := 0) C hcs hW hf kk
  by_cases c29 : k = 29
  · subst c29
    refine lv_tableIn (off := 1151) (tgt := 1184) hx hb dL_law_33 (by decide) (by decide) rfl (by decide) ?_
    obtain ⟨fu, hf⟩ := hf
    exact lc_29 C hcs hW hf kk
  by_cases c30 : k = 30
  · subst c30
    refine lv_tableIn (off := 1164) (tgt := 1197) hx hb dL_law_33 (by decide) (by decide) rfl (by decide) ?_
    obtain ⟨fu, hf⟩ := hf
    exact lc_30 C hcs hW hf kk
  by_cases c31 : k = 31
  · subst c31
    refine lv_tableIn (off := 1177) (tgt := 1210) hx hb dL_law_33 (by decide) (by decide) rfl (by decide) ?_
    obtain ⟨fu, hf⟩ := hf
    exact lc_31 C hcs hW hf kk
  by_cases c32 : k = 32
  · subst c32
    refine lv_tableIn (off := 1200) (tgt := 1233) hx hb dL_law_33 (by decide) (by decide) rfl (by decide) ?_
    obtain ⟨fu, hfu, hf⟩ := hf
    exact lc_32 C hfu hcs hW hf kk
  by_cases c33 : k = 33
  · subst c33
    refine lv_tableIn (off := 1223) (tgt := 1256) hx hb dL_law_33 (by decide) (by decide) rfl (by decide) ?_
    obtain ⟨fu, hf⟩ := hf
    exact lc_33 C hcs hW hf kk
  by_cases c34 : k = 34
  · subst c34
    refine lv_tableIn (off := 1246) (tgt := 1279) hx hb dL_law_33 (by decide) (by decide) rfl (by decide) ?_
    obtain ⟨fu, hf⟩ := hf
    exact lc_34 C hcs hW hf kk
  by_cases c35 : k = 35
  · subst c35
    refine lv_tableIn (off := 1269) (tgt := 1302) hx hb dL_law_33 (by decide) (by decide) rfl (by decide) ?_
    exact lc_35 (fu := 0) C hcs hW hf kk
  by_cases c36 : k = 36
  · subst c36
    refine lv_tableIn (off := 1312) (tgt := 1345) hx hb dL_law_33 (by decide) (by decide) rfl (by decide) ?_
    obtain ⟨fu, hf⟩ := hf
    exact lc_36 C hcs hW hf kk
  by_cases c37 : k = 37
  · subst c37
    refine lv_tableIn (off := 1345) (tgt := 1378) hx hb dL_law_33 (by decide) (by decide) rfl (by decide) ?_
    obtain ⟨fu, hfu, hf⟩ := hf
    exact lc_37 C hfu hcs hW hf kk
  by_cases c38 : k = 38
  · subst c38
    refine lv_tableIn (off := 1368) (tgt := 1401) hx hb dL_law_33 (by decide) (by decide) rfl (by decide) ?_
    obtain ⟨fu, hf⟩ := hf
    exact lc_38 C hcs hW hf kk
  by_cases c39 : k = 39
  · subst c39
    refine lv_tableIn (off := 1401) (tgt := 1434) hx hb dL_law_33 (by decide) (by decide) rfl (by decide) ?_
    obtain ⟨fu, hf⟩ := hf
    exact lc_39 C hcs hW hf kk
  by_cases c40 : k = 40
  · subst c40
    refine lv_tableIn (off := 1444) (tgt := 1477) hx hb dL_law_33 (by decide) (by decide) rfl (by decide) ?_
    obtain ⟨fu, hf⟩ := hf
    exact lc_40 C hcs hW hf kk
  by_cases c41 : k = 41
  · subst c41
    refine lv_tableIn (off := 1477) (tgt := 1510) hx hb dL_law_33 (by decide) (by decide) rfl (by decide) ?_
    obtain ⟨fu, hf⟩ := hf
    exact lc_41 C hcs hW hf kk
  by_cases c42 : k = 42
  · subst c42
    refine lv_tableIn (off := 1510) (tgt := 1543) hx hb dL_law_33 (by decide) (by decide) rfl (by decide) ?_
    obtain ⟨fu, hf⟩ := hf
    exact lc_42 C hcs hW hf kk
  by_cases c43 : k = 43
  · subst c43
    refine lv_tableIn (off := 1533) (tgt := 1566) hx hb dL_law_33 (by decide) (by decide) rfl (by decide) ?_
    obtain ⟨fu, hf⟩ := hf
    exact lc_43 C hcs hW hf kk
  by_cases c44 : k = 44
  · subst c44
    refine lv_tableIn (off := 1566) (tgt := 1599) hx hb dL_law_33 (by decide) (by decide) rfl (by decide) ?_
    obtain ⟨fu, hf⟩ := hf
    exact lc_44 C hcs hW hf kk
  by_cases c45 : k = 45
  · subst c45
    refine lv_tableIn (off := 1599) (tgt := 1632) hx hb dL_law_33 (by decide) (by decide) rfl (by decide) ?_
    obtain ⟨fu, hf⟩ := hf
    exact lc_45 C hcs hW hf kk
  by_cases c46 : k = 46
  · subst c46
    refine lv_tableIn (off := 1642) (tgt := 1675) hx hb dL_law_33 (by decide) (by decide) rfl (by decide) ?_
    obtain ⟨fu, hf⟩ := hf
    exact lc_46 C hcs hW hf kk
  by_cases c47 : k = 47
  · subst c47
    refine lv_tableIn (off := 1675) (tgt := 1708) hx hb dL_law_33 (by decide) (by decide) rfl (by decide) ?_
    obtain ⟨fu, hf⟩ := hf
    exact lc_47 C hcs hW hf kk
  by_cases c48 : k = 48
  · subst c48
    refine lv_tableIn (off := 1728) (tgt := 1761) hx hb dL_law_33 (by decide) (by decide) rfl (by decide) ?_
    obtain ⟨fu, hf⟩ := hf
    exact lc_48 C hcs hW hf kk
  by_cases c49 : k = 49
  · subst c49
    refine lv_tableIn (off := 1751) (tgt := 1784) hx hb dL_law_33 (by decide) (by decide) rfl (by decide) ?_
    obtain ⟨fu, hf⟩ := hf
    exact lc_49 C hcs hW hf kk
  by_cases c50 : k = 50
  · subst c50
    refine lv_tableIn (off := 1784) (tgt := 1817) hx hb dL_law_33 (by decide) (by decide) rfl (by decide) ?_
    obtain ⟨fu, hf⟩ := hf
    exact lc_50 C hcs hW hf kk
  by_cases c51 : k = 51
  · subst c51
    refine lv_tableIn (off := 1797) (tgt := 1830) hx hb dL_law_33 (by decide) (by decide) rfl (by decide) ?_
    obtain ⟨fu, hf⟩ := hf
    exact lc_51 C hcs hW hf kk
  by_cases c52 : k = 52
  · subst c52
    refine lv_tableIn (off := 1820) (tgt := 1853) hx hb dL_law_33 (by decide) (by decide) rfl (by decide) ?_
    obtain ⟨fu, hf⟩ := hf
    exact lc_52 C hcs hW hf kk
  by_cases c53 : k = 53
  · subst c53
    refine lv_tableIn (off := 1843) (tgt := 1876) hx hb dL_law_33 (by decide) (by decide) rfl (by decide) ?_
    exact lc_53 (fu := 0) C hcs hW hf kk
  by_cases c54 : k = 54
  · subst c54
    refine lv_tableIn (off := 1866) (tgt := 1899) hx hb dL_law_33 (by decide) (by decide) rfl (by decide) ?_
    obtain ⟨fu, hf⟩ := hf
    exact lc_54 C hcs hW hf kk
  by_cases c55 : k = 55
  · subst c55
    refine lv_tableIn (off := 1879) (tgt := 1912) hx hb dL_law_33 (by decide) (by decide) rfl (by decide) ?_
    obtain ⟨fu, hf⟩ := hf
    exact lc_55 C hcs hW hf kk
  by_cases c56 : k = 56
  · subst c56
    refine lv_tableIn (off := 1892) (tgt := 1925) hx hb dL_law_33 (by decide) (by decide) rfl (by decide) ?_
    obtain ⟨fu, hf⟩ := hf
    exact lc_56 C hcs hW hf kk
  have h57 : 57 ≤ k := by omega
  obtain ⟨j, rfl⟩ : ∃ j, k = j + 57 := ⟨k - 57, by omega⟩
  have e6 : (nI (j + 57)).toInt = ((j + 57 : Nat) : Int) := Int32.toInt_ofNat_of_lt (by show j + 57 < 2 ^ 31; omega)
  refine lv_tableOut (tgt := 1948) hx hb dL_law_33 (by rw [e6]; omega) (by decide) ?_
  exact kk adN tY tK tQ X N T L kd nu aa LR so rn ri rl M _ _ _ _ hf hW (by omega) (by omega)
