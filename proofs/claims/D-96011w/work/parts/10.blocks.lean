/-! the blocks of the program's objects: printed by gen/blocks.py -/
set_option maxRecDepth 100000
def vWf (ad : Nat → Nat) (V : BC) : List Value := [.ref (ad 1), .ref (ad 2), .ref (ad 3), .ref (ad 4), .ref (ad 5), .ref (ad 6), .ref (ad 7), .ref (ad 8), .ref (ad 9), .ref (ad 10), .ref (ad 17), .ref (ad 18), .int (V.1 0 0), .int (V.1 0 1), .int (V.1 0 2), .int (V.1 0 3), .int (V.1 0 4)]
def vW (g : Nat → ClassId) (ad : Nat → Nat) (V : BC) : va_W := [(ad 0, .inr (1, vWf ad V)), (ad 1, .inl (g 0, 6, .inl (V.1 1))), (ad 2, .inl (g 0, 6, .inl (V.1 2))), (ad 3, .inl (g 0, 6, .inl (V.1 3))), (ad 4, .inl (g 0, 6, .inl (V.1 4))), (ad 5, .inl (g 0, 6, .inl (V.1 5))), (ad 6, .inl (g 0, 6, .inl (V.1 6))), (ad 7, .inl (g 0, 6, .inl (V.1 7))), (ad 8, .inl (g 5, 6, .inr (.inr (.inr (.inr (V.2.1 8)))))), (ad 9, .inl (g 0, 6, .inl (V.1 9))), (ad 10, .inl (g 7, 6, .inr (.inr (.inr (.inr (fun j => some (ad (11 + j)))))))), (ad 11, .inl (g 0, 6, .inl (V.1 11))), (ad 12, .inl (g 0, 6, .inl (V.1 12))), (ad 13, .inl (g 0, 6, .inl (V.1 13))), (ad 14, .inl (g 0, 6, .inl (V.1 14))), (ad 15, .inl (g 0, 6, .inl (V.1 15))), (ad 16, .inl (g 0, 6, .inl (V.1 16))), (ad 17, .inl (g 0, 6, .inl (V.1 17))), (ad 18, .inl (g 0, 6, .inl (V.1 18)))]
theorem vW_0 {g : Nat → ClassId} {ad : Nat → Nat} {V : BC} : (vW g ad V)[0]? = some (ad 0, .inr (1, vWf ad V)) := rfl
theorem vW_l {ad : Nat → Nat} {V : BC} : (vWf ad V).length = 17 := rfl
theorem vW_g0 {ad : Nat → Nat} {V : BC} : (vWf ad V)[0]? = some (.ref (ad 1)) := rfl
theorem vW_g1 {ad : Nat → Nat} {V : BC} : (vWf ad V)[1]? = some (.ref (ad 2)) := rfl
theorem vW_g2 {ad : Nat → Nat} {V : BC} : (vWf ad V)[2]? = some (.ref (ad 3)) := rfl
theorem vW_g3 {ad : Nat → Nat} {V : BC} : (vWf ad V)[3]? = some (.ref (ad 4)) := rfl
theorem vW_g4 {ad : Nat → Nat} {V : BC} : (vWf ad V)[4]? = some (.ref (ad 5)) := rfl
theorem vW_g5 {ad : Nat → Nat} {V : BC} : (vWf ad V)[5]? = some (.ref (ad 6)) := rfl
theorem vW_g6 {ad : Nat → Nat} {V : BC} : (vWf ad V)[6]? = some (.ref (ad 7)) := rfl
theorem vW_g7 {ad : Nat → Nat} {V : BC} : (vWf ad V)[7]? = some (.ref (ad 8)) := rfl
theorem vW_g8 {ad : Nat → Nat} {V : BC} : (vWf ad V)[8]? = some (.ref (ad 9)) := rfl
theorem vW_g9 {ad : Nat → Nat} {V : BC} : (vWf ad V)[9]? = some (.ref (ad 10)) := rfl
theorem vW_g10 {ad : Nat → Nat} {V : BC} : (vWf ad V)[10]? = some (.ref (ad 17)) := rfl
theorem vW_g11 {ad : Nat → Nat} {V : BC} : (vWf ad V)[11]? = some (.ref (ad 18)) := rfl
theorem vW_g12 {ad : Nat → Nat} {V : BC} : (vWf ad V)[12]? = some (.int (V.1 0 0)) := rfl
theorem vW_p12 {g : Nat → ClassId} {ad : Nat → Nat} {V : BC} {V1 : BC} {x : Int32} (e : bI V 0 (upd (V.1 0) 0 x) = V1) : (vW g ad V).set 0 (ad 0, .inr (1, (vWf ad V).set 12 (.int x))) = vW g ad V1 := by subst e; rfl
theorem vW_g13 {ad : Nat → Nat} {V : BC} : (vWf ad V)[13]? = some (.int (V.1 0 1)) := rfl
theorem vW_p13 {g : Nat → ClassId} {ad : Nat → Nat} {V : BC} {V1 : BC} {x : Int32} (e : bI V 0 (upd (V.1 0) 1 x) = V1) : (vW g ad V).set 0 (ad 0, .inr (1, (vWf ad V).set 13 (.int x))) = vW g ad V1 := by subst e; rfl
theorem vW_g14 {ad : Nat → Nat} {V : BC} : (vWf ad V)[14]? = some (.int (V.1 0 2)) := rfl
theorem vW_p14 {g : Nat → ClassId} {ad : Nat → Nat} {V : BC} {V1 : BC} {x : Int32} (e : bI V 0 (upd (V.1 0) 2 x) = V1) : (vW g ad V).set 0 (ad 0, .inr (1, (vWf ad V).set 14 (.int x))) = vW g ad V1 := by subst e; rfl
theorem vW_g15 {ad : Nat → Nat} {V : BC} : (vWf ad V)[15]? = some (.int (V.1 0 3)) := rfl
theorem vW_p15 {g : Nat → ClassId} {ad : Nat → Nat} {V : BC} {V1 : BC} {x : Int32} (e : bI V 0 (upd (V.1 0) 3 x) = V1) : (vW g ad V).set 0 (ad 0, .inr (1, (vWf ad V).set 15 (.int x))) = vW g ad V1 := by subst e; rfl
theorem vW_g16 {ad : Nat → Nat} {V : BC} : (vWf ad V)[16]? = some (.int (V.1 0 4)) := rfl
theorem vW_p16 {g : Nat → ClassId} {ad : Nat → Nat} {V : BC} {V1 : BC} {x : Int32} (e : bI V 0 (upd (V.1 0) 4 x) = V1) : (vW g ad V).set 0 (ad 0, .inr (1, (vWf ad V).set 16 (.int x))) = vW g ad V1 := by subst e; rfl
theorem vW_1 {g : Nat → ClassId} {ad : Nat → Nat} {V : BC} : (vW g ad V)[1]? = some (ad 1, .inl (g 0, 6, .inl (V.1 1))) := rfl
theorem vW_s1 {g : Nat → ClassId} {ad : Nat → Nat} {V : BC} {V1 : BC} {f : Nat → Int32} (e : bI V 1 f = V1) : (vW g ad V).set 1 (ad 1, .inl (g 0, 6, .inl f)) = vW g ad V1 := by subst e; rfl
theorem vW_2 {g : Nat → ClassId} {ad : Nat → Nat} {V : BC} : (vW g ad V)[2]? = some (ad 2, .inl (g 0, 6, .inl (V.1 2))) := rfl
theorem vW_s2 {g : Nat → ClassId} {ad : Nat → Nat} {V : BC} {V1 : BC} {f : Nat → Int32} (e : bI V 2 f = V1) : (vW g ad V).set 2 (ad 2, .inl (g 0, 6, .inl f)) = vW g ad V1 := by subst e; rfl
theorem vW_3 {g : Nat → ClassId} {ad : Nat → Nat} {V : BC} : (vW g ad V)[3]? = some (ad 3, .inl (g 0, 6, .inl (V.1 3))) := rfl
theorem vW_s3 {g : Nat → ClassId} {ad : Nat → Nat} {V : BC} {V1 : BC} {f : Nat → Int32} (e : bI V 3 f = V1) : (vW g ad V).set 3 (ad 3, .inl (g 0, 6, .inl f)) = vW g ad V1 := by subst e; rfl
theorem vW_4 {g : Nat → ClassId} {ad : Nat → Nat} {V : BC} : (vW g ad V)[4]? = some (ad 4, .inl (g 0, 6, .inl (V.1 4))) := rfl
theorem vW_s4 {g : Nat → ClassId} {ad : Nat → Nat} {V : BC} {V1 : BC} {f : Nat → Int32} (e : bI V 4 f = V1) : (vW g ad V).set 4 (ad 4, .inl (g 0, 6, .inl f)) = vW g ad V1 := by subst e; rfl
theorem vW_5 {g : Nat → ClassId} {ad : Nat → Nat} {V : BC} : (vW g ad V)[5]? = some (ad 5, .inl (g 0, 6, .inl (V.1 5))) := rfl
theorem vW_s5 {g : Nat → ClassId} {ad : Nat → Nat} {V : BC} {V1 : BC} {f : Nat → Int32} (e : bI V 5 f = V1) : (vW g ad V).set 5 (ad 5, .inl (g 0, 6, .inl f)) = vW g ad V1 := by subst e; rfl
theorem vW_6 {g : Nat → ClassId} {ad : Nat → Nat} {V : BC} : (vW g ad V)[6]? = some (ad 6, .inl (g 0, 6, .inl (V.1 6))) := rfl
theorem vW_s6 {g : Nat → ClassId} {ad : Nat → Nat} {V : BC} {V1 : BC} {f : Nat → Int32} (e : bI V 6 f = V1) : (vW g ad V).set 6 (ad 6, .inl (g 0, 6, .inl f)) = vW g ad V1 := by subst e; rfl
theorem vW_7 {g : Nat → ClassId} {ad : Nat → Nat} {V : BC} : (vW g ad V)[7]? = some (ad 7, .inl (g 0, 6, .inl (V.1 7))) := rfl
theorem vW_s7 {g : Nat → ClassId} {ad : Nat → Nat} {V : BC} {V1 : BC} {f : Nat → Int32} (e : bI V 7 f = V1) : (vW g ad V).set 7 (ad 7, .inl (g 0, 6, .inl f)) = vW g ad V1 := by subst e; rfl
theorem vW_8 {g : Nat → ClassId} {ad : Nat → Nat} {V : BC} : (vW g ad V)[8]? = some (ad 8, .inl (g 5, 6, .inr (.inr (.inr (.inr (V.2.1 8)))))) := rfl
theorem vW_s8 {g : Nat → ClassId} {ad : Nat → Nat} {V : BC} {V1 : BC} {f : Nat → Option Nat} (e : bR V 8 f = V1) : (vW g ad V).set 8 (ad 8, .inl (g 5, 6, .inr (.inr (.inr (.inr f))))) = vW g ad V1 := by subst e; rfl
theorem vW_9 {g : Nat → ClassId} {ad : Nat → Nat} {V : BC} : (vW g ad V)[9]? = some (ad 9, .inl (g 0, 6, .inl (V.1 9))) := rfl
theorem vW_s9 {g : Nat → ClassId} {ad : Nat → Nat} {V : BC} {V1 : BC} {f : Nat → Int32} (e : bI V 9 f = V1) : (vW g ad V).set 9 (ad 9, .inl (g 0, 6, .inl f)) = vW g ad V1 := by subst e; rfl
theorem vW_10 {g : Nat → ClassId} {ad : Nat → Nat} {V : BC} : (vW g ad V)[10]? = some (ad 10, .inl (g 7, 6, .inr (.inr (.inr (.inr (fun j => some (ad (11 + j)))))))) := rfl
theorem vW_r11 {g : Nat → ClassId} {ad : Nat → Nat} {V : BC} : ∀ {i : Nat}, i < 6 → (vW g ad V)[11 + i]? = some (ad (11 + i), .inl (g 0, 6, .inl (V.1 (11 + i))))
  | 0, _ => rfl
  | 1, _ => rfl
  | 2, _ => rfl
  | 3, _ => rfl
  | 4, _ => rfl
  | 5, _ => rfl
  | n + 6, h => absurd h (by omega)
theorem vW_rs11 {g : Nat → ClassId} {ad : Nat → Nat} {V : BC} {V1 : BC} {f : Nat → Int32} : ∀ {i : Nat}, i < 6 → bI V (11 + i) f = V1 → (vW g ad V).set (11 + i) (ad (11 + i), .inl (g 0, 6, .inl f)) = vW g ad V1
  | 0, _, e => by subst e; rfl
  | 1, _, e => by subst e; rfl
  | 2, _, e => by subst e; rfl
  | 3, _, e => by subst e; rfl
  | 4, _, e => by subst e; rfl
  | 5, _, e => by subst e; rfl
  | n + 6, h, _ => absurd h (by omega)
theorem vW_11 {g : Nat → ClassId} {ad : Nat → Nat} {V : BC} : (vW g ad V)[11]? = some (ad 11, .inl (g 0, 6, .inl (V.1 11))) := rfl
theorem vW_s11 {g : Nat → ClassId} {ad : Nat → Nat} {V : BC} {V1 : BC} {f : Nat → Int32} (e : bI V 11 f = V1) : (vW g ad V).set 11 (ad 11, .inl (g 0, 6, .inl f)) = vW g ad V1 := by subst e; rfl
theorem vW_12 {g : Nat → ClassId} {ad : Nat → Nat} {V : BC} : (vW g ad V)[12]? = some (ad 12, .inl (g 0, 6, .inl (V.1 12))) := rfl
theorem vW_s12 {g : Nat → ClassId} {ad : Nat → Nat} {V : BC} {V1 : BC} {f : Nat → Int32} (e : bI V 12 f = V1) : (vW g ad V).set 12 (ad 12, .inl (g 0, 6, .inl f)) = vW g ad V1 := by subst e; rfl
theorem vW_13 {g : Nat → ClassId} {ad : Nat → Nat} {V : BC} : (vW g ad V)[13]? = some (ad 13, .inl (g 0, 6, .inl (V.1 13))) := rfl
theorem vW_s13 {g : Nat → ClassId} {ad : Nat → Nat} {V : BC} {V1 : BC} {f : Nat → Int32} (e : bI V 13 f = V1) : (vW g ad V).set 13 (ad 13, .inl (g 0, 6, .inl f)) = vW g ad V1 := by subst e; rfl
theorem vW_14 {g : Nat → ClassId} {ad : Nat → Nat} {V : BC} : (vW g ad V)[14]? = some (ad 14, .inl (g 0, 6, .inl (V.1 14))) := rfl
theorem vW_s14 {g : Nat → ClassId} {ad : Nat → Nat} {V : BC} {V1 : BC} {f : Nat → Int32} (e : bI V 14 f = V1) : (vW g ad V).set 14 (ad 14, .inl (g 0, 6, .inl f)) = vW g ad V1 := by subst e; rfl
theorem vW_15 {g : Nat → ClassId} {ad : Nat → Nat} {V : BC} : (vW g ad V)[15]? = some (ad 15, .inl (g 0, 6, .inl (V.1 15))) := rfl
theorem vW_s15 {g : Nat → ClassId} {ad : Nat → Nat} {V : BC} {V1 : BC} {f : Nat → Int32} (e : bI V 15 f = V1) : (vW g ad V).set 15 (ad 15, .inl (g 0, 6, .inl f)) = vW g ad V1 := by subst e; rfl
theorem vW_16 {g : Nat → ClassId} {ad : Nat → Nat} {V : BC} : (vW g ad V)[16]? = some (ad 16, .inl (g 0, 6, .inl (V.1 16))) := rfl
theorem vW_s16 {g : Nat → ClassId} {ad : Nat → Nat} {V : BC} {V1 : BC} {f : Nat → Int32} (e : bI V 16 f = V1) : (vW g ad V).set 16 (ad 16, .inl (g 0, 6, .inl f)) = vW g ad V1 := by subst e; rfl
theorem vW_17 {g : Nat → ClassId} {ad : Nat → Nat} {V : BC} : (vW g ad V)[17]? = some (ad 17, .inl (g 0, 6, .inl (V.1 17))) := rfl
theorem vW_s17 {g : Nat → ClassId} {ad : Nat → Nat} {V : BC} {V1 : BC} {f : Nat → Int32} (e : bI V 17 f = V1) : (vW g ad V).set 17 (ad 17, .inl (g 0, 6, .inl f)) = vW g ad V1 := by subst e; rfl
theorem vW_18 {g : Nat → ClassId} {ad : Nat → Nat} {V : BC} : (vW g ad V)[18]? = some (ad 18, .inl (g 0, 6, .inl (V.1 18))) := rfl
theorem vW_s18 {g : Nat → ClassId} {ad : Nat → Nat} {V : BC} {V1 : BC} {f : Nat → Int32} (e : bI V 18 f = V1) : (vW g ad V).set 18 (ad 18, .inl (g 0, 6, .inl f)) = vW g ad V1 := by subst e; rfl
def mWf (ad : Nat → Nat) (kp tr : Option Nat) (V : BC) : List Value := [.ref (ad 1), .ref (ad 2), .ref (ad 3), .ref (ad 4), .ref (ad 13), .ref (ad 14), .ref (ad 15), .int (V.1 0 0), .ref (ad 16), .int (V.1 0 1), .ref (ad 17), .int (V.1 0 2), .ref (ad 24), .int (V.1 0 3), .int (V.1 0 4), .int (V.1 0 5), va_rf kp, va_rf tr, .int (V.1 0 6), .int (V.1 0 7), .int (V.1 0 8), .int (V.1 0 9), .int (V.1 0 10), .ref (ad 31), .int (V.1 0 11), .ref (ad 32), .ref (ad 39), .ref (ad 40), .ref (ad 41), .int (V.1 0 12), .ref (ad 42), .ref (ad 43), .int (V.1 0 13), .ref (ad 44)]
def mW (g : Nat → ClassId) (ad : Nat → Nat) (kp tr : Option Nat) (V : BC) : va_W := [(ad 0, .inr (3, mWf ad kp tr V)), (ad 1, .inl (g 0, 8, .inl (V.1 1))), (ad 2, .inl (g 0, 8, .inl (V.1 2))), (ad 3, .inl (g 0, 8, .inl (V.1 3))), (ad 4, .inl (g 8, 8, .inr (.inr (.inr (.inr (fun j => some (ad (5 + j)))))))), (ad 5, .inl (g 1, 40, .inr (.inl (V.2.2 5)))), (ad 6, .inl (g 1, 40, .inr (.inl (V.2.2 6)))), (ad 7, .inl (g 1, 40, .inr (.inl (V.2.2 7)))), (ad 8, .inl (g 1, 40, .inr (.inl (V.2.2 8)))), (ad 9, .inl (g 1, 40, .inr (.inl (V.2.2 9)))), (ad 10, .inl (g 1, 40, .inr (.inl (V.2.2 10)))), (ad 11, .inl (g 1, 40, .inr (.inl (V.2.2 11)))), (ad 12, .inl (g 1, 40, .inr (.inl (V.2.2 12)))), (ad 13, .inl (g 1, 40, .inr (.inl (V.2.2 13)))), (ad 14, .inl (g 0, 8, .inl (V.1 14))), (ad 15, .inl (g 0, 250, .inl (V.1 15))), (ad 16, .inl (g 0, 8, .inl (V.1 16))), (ad 17, .inl (g 7, 6, .inr (.inr (.inr (.inr (fun j => some (ad (18 + j)))))))), (ad 18, .inl (g 0, 7, .inl (V.1 18))), (ad 19, .inl (g 0, 7, .inl (V.1 19))), (ad 20, .inl (g 0, 7, .inl (V.1 20))), (ad 21, .inl (g 0, 7, .inl (V.1 21))), (ad 22, .inl (g 0, 7, .inl (V.1 22))), (ad 23, .inl (g 0, 7, .inl (V.1 23))), (ad 24, .inl (g 7, 6, .inr (.inr (.inr (.inr (fun j => some (ad (25 + j)))))))), (ad 25, .inl (g 0, 3, .inl (V.1 25))), (ad 26, .inl (g 0, 3, .inl (V.1 26))), (ad 27, .inl (g 0, 3, .inl (V.1 27))), (ad 28, .inl (g 0, 3, .inl (V.1 28))), (ad 29, .inl (g 0, 3, .inl (V.1 29))), (ad 30, .inl (g 0, 3, .inl (V.1 30))), (ad 31, .inl (g 0, 3, .inl (V.1 31))), (ad 32, .inl (g 7, 6, .inr (.inr (.inr (.inr (fun j => some (ad (33 + j)))))))), (ad 33, .inl (g 0, 6, .inl (V.1 33))), (ad 34, .inl (g 0, 6, .inl (V.1 34))), (ad 35, .inl (g 0, 6, .inl (V.1 35))), (ad 36, .inl (g 0, 6, .inl (V.1 36))), (ad 37, .inl (g 0, 6, .inl (V.1 37))), (ad 38, .inl (g 0, 6, .inl (V.1 38))), (ad 39, .inl (g 0, 6, .inl (V.1 39))), (ad 40, .inl (g 0, 6, .inl (V.1 40))), (ad 41, .inl (g 0, 6, .inl (V.1 41))), (ad 42, .inl (g 0, 6, .inl (V.1 42))), (ad 43, .inl (g 0, 6, .inl (V.1 43))), (ad 44, .inl (g 0, 3, .inl (V.1 44)))]
theorem mW_0 {g : Nat → ClassId} {ad : Nat → Nat} {kp tr : Option Nat} {V : BC} : (mW g ad kp tr V)[0]? = some (ad 0, .inr (3, mWf ad kp tr V)) := rfl
theorem mW_l {ad : Nat → Nat} {kp tr : Option Nat} {V : BC} : (mWf ad kp tr V).length = 34 := rfl
theorem mW_g0 {ad : Nat → Nat} {kp tr : Option Nat} {V : BC} : (mWf ad kp tr V)[0]? = some (.ref (ad 1)) := rfl
theorem mW_g1 {ad : Nat → Nat} {kp tr : Option Nat} {V : BC} : (mWf ad kp tr V)[1]? = some (.ref (ad 2)) := rfl
theorem mW_g2 {ad : Nat → Nat} {kp tr : Option Nat} {V : BC} : (mWf ad kp tr V)[2]? = some (.ref (ad 3)) := rfl
theorem mW_g3 {ad : Nat → Nat} {kp tr : Option Nat} {V : BC} : (mWf ad kp tr V)[3]? = some (.ref (ad 4)) := rfl
theorem mW_g4 {ad : Nat → Nat} {kp tr : Option Nat} {V : BC} : (mWf ad kp tr V)[4]? = some (.ref (ad 13)) := rfl
theorem mW_g5 {ad : Nat → Nat} {kp tr : Option Nat} {V : BC} : (mWf ad kp tr V)[5]? = some (.ref (ad 14)) := rfl
theorem mW_g6 {ad : Nat → Nat} {kp tr : Option Nat} {V : BC} : (mWf ad kp tr V)[6]? = some (.ref (ad 15)) := rfl
theorem mW_g7 {ad : Nat → Nat} {kp tr : Option Nat} {V : BC} : (mWf ad kp tr V)[7]? = some (.int (V.1 0 0)) := rfl
theorem mW_p7 {g : Nat → ClassId} {ad : Nat → Nat} {kp tr : Option Nat} {V : BC} {V1 : BC} {x : Int32} (e : bI V 0 (upd (V.1 0) 0 x) = V1) : (mW g ad kp tr V).set 0 (ad 0, .inr (3, (mWf ad kp tr V).set 7 (.int x))) = mW g ad kp tr V1 := by subst e; rfl
theorem mW_g8 {ad : Nat → Nat} {kp tr : Option Nat} {V : BC} : (mWf ad kp tr V)[8]? = some (.ref (ad 16)) := rfl
theorem mW_g9 {ad : Nat → Nat} {kp tr : Option Nat} {V : BC} : (mWf ad kp tr V)[9]? = some (.int (V.1 0 1)) := rfl
theorem mW_p9 {g : Nat → ClassId} {ad : Nat → Nat} {kp tr : Option Nat} {V : BC} {V1 : BC} {x : Int32} (e : bI V 0 (upd (V.1 0) 1 x) = V1) : (mW g ad kp tr V).set 0 (ad 0, .inr (3, (mWf ad kp tr V).set 9 (.int x))) = mW g ad kp tr V1 := by subst e; rfl
theorem mW_g10 {ad : Nat → Nat} {kp tr : Option Nat} {V : BC} : (mWf ad kp tr V)[10]? = some (.ref (ad 17)) := rfl
theorem mW_g11 {ad : Nat → Nat} {kp tr : Option Nat} {V : BC} : (mWf ad kp tr V)[11]? = some (.int (V.1 0 2)) := rfl
theorem mW_p11 {g : Nat → ClassId} {ad : Nat → Nat} {kp tr : Option Nat} {V : BC} {V1 : BC} {x : Int32} (e : bI V 0 (upd (V.1 0) 2 x) = V1) : (mW g ad kp tr V).set 0 (ad 0, .inr (3, (mWf ad kp tr V).set 11 (.int x))) = mW g ad kp tr V1 := by subst e; rfl
theorem mW_g12 {ad : Nat → Nat} {kp tr : Option Nat} {V : BC} : (mWf ad kp tr V)[12]? = some (.ref (ad 24)) := rfl
theorem mW_g13 {ad : Nat → Nat} {kp tr : Option Nat} {V : BC} : (mWf ad kp tr V)[13]? = some (.int (V.1 0 3)) := rfl
theorem mW_p13 {g : Nat → ClassId} {ad : Nat → Nat} {kp tr : Option Nat} {V : BC} {V1 : BC} {x : Int32} (e : bI V 0 (upd (V.1 0) 3 x) = V1) : (mW g ad kp tr V).set 0 (ad 0, .inr (3, (mWf ad kp tr V).set 13 (.int x))) = mW g ad kp tr V1 := by subst e; rfl
theorem mW_g14 {ad : Nat → Nat} {kp tr : Option Nat} {V : BC} : (mWf ad kp tr V)[14]? = some (.int (V.1 0 4)) := rfl
theorem mW_p14 {g : Nat → ClassId} {ad : Nat → Nat} {kp tr : Option Nat} {V : BC} {V1 : BC} {x : Int32} (e : bI V 0 (upd (V.1 0) 4 x) = V1) : (mW g ad kp tr V).set 0 (ad 0, .inr (3, (mWf ad kp tr V).set 14 (.int x))) = mW g ad kp tr V1 := by subst e; rfl
theorem mW_g15 {ad : Nat → Nat} {kp tr : Option Nat} {V : BC} : (mWf ad kp tr V)[15]? = some (.int (V.1 0 5)) := rfl
theorem mW_p15 {g : Nat → ClassId} {ad : Nat → Nat} {kp tr : Option Nat} {V : BC} {V1 : BC} {x : Int32} (e : bI V 0 (upd (V.1 0) 5 x) = V1) : (mW g ad kp tr V).set 0 (ad 0, .inr (3, (mWf ad kp tr V).set 15 (.int x))) = mW g ad kp tr V1 := by subst e; rfl
theorem mW_g16 {ad : Nat → Nat} {kp tr : Option Nat} {V : BC} : (mWf ad kp tr V)[16]? = some (va_rf kp) := rfl
theorem mW_p16 {g : Nat → ClassId} {ad : Nat → Nat} {kp tr : Option Nat} {V : BC} {x : Option Nat} : (mW g ad kp tr V).set 0 (ad 0, .inr (3, (mWf ad kp tr V).set 16 (va_rf x))) = mW g ad x tr V := rfl
theorem mW_g17 {ad : Nat → Nat} {kp tr : Option Nat} {V : BC} : (mWf ad kp tr V)[17]? = some (va_rf tr) := rfl
theorem mW_p17 {g : Nat → ClassId} {ad : Nat → Nat} {kp tr : Option Nat} {V : BC} {x : Option Nat} : (mW g ad kp tr V).set 0 (ad 0, .inr (3, (mWf ad kp tr V).set 17 (va_rf x))) = mW g ad kp x V := rfl
theorem mW_g18 {ad : Nat → Nat} {kp tr : Option Nat} {V : BC} : (mWf ad kp tr V)[18]? = some (.int (V.1 0 6)) := rfl
theorem mW_p18 {g : Nat → ClassId} {ad : Nat → Nat} {kp tr : Option Nat} {V : BC} {V1 : BC} {x : Int32} (e : bI V 0 (upd (V.1 0) 6 x) = V1) : (mW g ad kp tr V).set 0 (ad 0, .inr (3, (mWf ad kp tr V).set 18 (.int x))) = mW g ad kp tr V1 := by subst e; rfl
theorem mW_g19 {ad : Nat → Nat} {kp tr : Option Nat} {V : BC} : (mWf ad kp tr V)[19]? = some (.int (V.1 0 7)) := rfl
theorem mW_p19 {g : Nat → ClassId} {ad : Nat → Nat} {kp tr : Option Nat} {V : BC} {V1 : BC} {x : Int32} (e : bI V 0 (upd (V.1 0) 7 x) = V1) : (mW g ad kp tr V).set 0 (ad 0, .inr (3, (mWf ad kp tr V).set 19 (.int x))) = mW g ad kp tr V1 := by subst e; rfl
theorem mW_g20 {ad : Nat → Nat} {kp tr : Option Nat} {V : BC} : (mWf ad kp tr V)[20]? = some (.int (V.1 0 8)) := rfl
theorem mW_p20 {g : Nat → ClassId} {ad : Nat → Nat} {kp tr : Option Nat} {V : BC} {V1 : BC} {x : Int32} (e : bI V 0 (upd (V.1 0) 8 x) = V1) : (mW g ad kp tr V).set 0 (ad 0, .inr (3, (mWf ad kp tr V).set 20 (.int x))) = mW g ad kp tr V1 := by subst e; rfl
theorem mW_g21 {ad : Nat → Nat} {kp tr : Option Nat} {V : BC} : (mWf ad kp tr V)[21]? = some (.int (V.1 0 9)) := rfl
theorem mW_p21 {g : Nat → ClassId} {ad : Nat → Nat} {kp tr : Option Nat} {V : BC} {V1 : BC} {x : Int32} (e : bI V 0 (upd (V.1 0) 9 x) = V1) : (mW g ad kp tr V).set 0 (ad 0, .inr (3, (mWf ad kp tr V).set 21 (.int x))) = mW g ad kp tr V1 := by subst e; rfl
theorem mW_g22 {ad : Nat → Nat} {kp tr : Option Nat} {V : BC} : (mWf ad kp tr V)[22]? = some (.int (V.1 0 10)) := rfl
theorem mW_p22 {g : Nat → ClassId} {ad : Nat → Nat} {kp tr : Option Nat} {V : BC} {V1 : BC} {x : Int32} (e : bI V 0 (upd (V.1 0) 10 x) = V1) : (mW g ad kp tr V).set 0 (ad 0, .inr (3, (mWf ad kp tr V).set 22 (.int x))) = mW g ad kp tr V1 := by subst e; rfl
theorem mW_g23 {ad : Nat → Nat} {kp tr : Option Nat} {V : BC} : (mWf ad kp tr V)[23]? = some (.ref (ad 31)) := rfl
theorem mW_g24 {ad : Nat → Nat} {kp tr : Option Nat} {V : BC} : (mWf ad kp tr V)[24]? = some (.int (V.1 0 11)) := rfl
theorem mW_p24 {g : Nat → ClassId} {ad : Nat → Nat} {kp tr : Option Nat} {V : BC} {V1 : BC} {x : Int32} (e : bI V 0 (upd (V.1 0) 11 x) = V1) : (mW g ad kp tr V).set 0 (ad 0, .inr (3, (mWf ad kp tr V).set 24 (.int x))) = mW g ad kp tr V1 := by subst e; rfl
theorem mW_g25 {ad : Nat → Nat} {kp tr : Option Nat} {V : BC} : (mWf ad kp tr V)[25]? = some (.ref (ad 32)) := rfl
theorem mW_g26 {ad : Nat → Nat} {kp tr : Option Nat} {V : BC} : (mWf ad kp tr V)[26]? = some (.ref (ad 39)) := rfl
theorem mW_g27 {ad : Nat → Nat} {kp tr : Option Nat} {V : BC} : (mWf ad kp tr V)[27]? = some (.ref (ad 40)) := rfl
theorem mW_g28 {ad : Nat → Nat} {kp tr : Option Nat} {V : BC} : (mWf ad kp tr V)[28]? = some (.ref (ad 41)) := rfl
theorem mW_g29 {ad : Nat → Nat} {kp tr : Option Nat} {V : BC} : (mWf ad kp tr V)[29]? = some (.int (V.1 0 12)) := rfl
theorem mW_p29 {g : Nat → ClassId} {ad : Nat → Nat} {kp tr : Option Nat} {V : BC} {V1 : BC} {x : Int32} (e : bI V 0 (upd (V.1 0) 12 x) = V1) : (mW g ad kp tr V).set 0 (ad 0, .inr (3, (mWf ad kp tr V).set 29 (.int x))) = mW g ad kp tr V1 := by subst e; rfl
theorem mW_g30 {ad : Nat → Nat} {kp tr : Option Nat} {V : BC} : (mWf ad kp tr V)[30]? = some (.ref (ad 42)) := rfl
theorem mW_g31 {ad : Nat → Nat} {kp tr : Option Nat} {V : BC} : (mWf ad kp tr V)[31]? = some (.ref (ad 43)) := rfl
theorem mW_g32 {ad : Nat → Nat} {kp tr : Option Nat} {V : BC} : (mWf ad kp tr V)[32]? = some (.int (V.1 0 13)) := rfl
theorem mW_p32 {g : Nat → ClassId} {ad : Nat → Nat} {kp tr : Option Nat} {V : BC} {V1 : BC} {x : Int32} (e : bI V 0 (upd (V.1 0) 13 x) = V1) : (mW g ad kp tr V).set 0 (ad 0, .inr (3, (mWf ad kp tr V).set 32 (.int x))) = mW g ad kp tr V1 := by subst e; rfl
theorem mW_g33 {ad : Nat → Nat} {kp tr : Option Nat} {V : BC} : (mWf ad kp tr V)[33]? = some (.ref (ad 44)) := rfl
theorem mW_1 {g : Nat → ClassId} {ad : Nat → Nat} {kp tr : Option Nat} {V : BC} : (mW g ad kp tr V)[1]? = some (ad 1, .inl (g 0, 8, .inl (V.1 1))) := rfl
theorem mW_s1 {g : Nat → ClassId} {ad : Nat → Nat} {kp tr : Option Nat} {V : BC} {V1 : BC} {f : Nat → Int32} (e : bI V 1 f = V1) : (mW g ad kp tr V).set 1 (ad 1, .inl (g 0, 8, .inl f)) = mW g ad kp tr V1 := by subst e; rfl
theorem mW_2 {g : Nat → ClassId} {ad : Nat → Nat} {kp tr : Option Nat} {V : BC} : (mW g ad kp tr V)[2]? = some (ad 2, .inl (g 0, 8, .inl (V.1 2))) := rfl
theorem mW_s2 {g : Nat → ClassId} {ad : Nat → Nat} {kp tr : Option Nat} {V : BC} {V1 : BC} {f : Nat → Int32} (e : bI V 2 f = V1) : (mW g ad kp tr V).set 2 (ad 2, .inl (g 0, 8, .inl f)) = mW g ad kp tr V1 := by subst e; rfl
theorem mW_3 {g : Nat → ClassId} {ad : Nat → Nat} {kp tr : Option Nat} {V : BC} : (mW g ad kp tr V)[3]? = some (ad 3, .inl (g 0, 8, .inl (V.1 3))) := rfl
theorem mW_s3 {g : Nat → ClassId} {ad : Nat → Nat} {kp tr : Option Nat} {V : BC} {V1 : BC} {f : Nat → Int32} (e : bI V 3 f = V1) : (mW g ad kp tr V).set 3 (ad 3, .inl (g 0, 8, .inl f)) = mW g ad kp tr V1 := by subst e; rfl
theorem mW_4 {g : Nat → ClassId} {ad : Nat → Nat} {kp tr : Option Nat} {V : BC} : (mW g ad kp tr V)[4]? = some (ad 4, .inl (g 8, 8, .inr (.inr (.inr (.inr (fun j => some (ad (5 + j)))))))) := rfl
theorem mW_r5 {g : Nat → ClassId} {ad : Nat → Nat} {kp tr : Option Nat} {V : BC} : ∀ {i : Nat}, i < 8 → (mW g ad kp tr V)[5 + i]? = some (ad (5 + i), .inl (g 1, 40, .inr (.inl (V.2.2 (5 + i)))))
  | 0, _ => rfl
  | 1, _ => rfl
  | 2, _ => rfl
  | 3, _ => rfl
  | 4, _ => rfl
  | 5, _ => rfl
  | 6, _ => rfl
  | 7, _ => rfl
  | n + 8, h => absurd h (by omega)
theorem mW_rs5 {g : Nat → ClassId} {ad : Nat → Nat} {kp tr : Option Nat} {V : BC} {V1 : BC} {f : Nat → Int64} : ∀ {i : Nat}, i < 8 → bL V (5 + i) f = V1 → (mW g ad kp tr V).set (5 + i) (ad (5 + i), .inl (g 1, 40, .inr (.inl f))) = mW g ad kp tr V1
  | 0, _, e => by subst e; rfl
  | 1, _, e => by subst e; rfl
  | 2, _, e => by subst e; rfl
  | 3, _, e => by subst e; rfl
  | 4, _, e => by subst e; rfl
  | 5, _, e => by subst e; rfl
  | 6, _, e => by subst e; rfl
  | 7, _, e => by subst e; rfl
  | n + 8, h, _ => absurd h (by omega)
theorem mW_5 {g : Nat → ClassId} {ad : Nat → Nat} {kp tr : Option Nat} {V : BC} : (mW g ad kp tr V)[5]? = some (ad 5, .inl (g 1, 40, .inr (.inl (V.2.2 5)))) := rfl
theorem mW_s5 {g : Nat → ClassId} {ad : Nat → Nat} {kp tr : Option Nat} {V : BC} {V1 : BC} {f : Nat → Int64} (e : bL V 5 f = V1) : (mW g ad kp tr V).set 5 (ad 5, .inl (g 1, 40, .inr (.inl f))) = mW g ad kp tr V1 := by subst e; rfl
theorem mW_6 {g : Nat → ClassId} {ad : Nat → Nat} {kp tr : Option Nat} {V : BC} : (mW g ad kp tr V)[6]? = some (ad 6, .inl (g 1, 40, .inr (.inl (V.2.2 6)))) := rfl
theorem mW_s6 {g : Nat → ClassId} {ad : Nat → Nat} {kp tr : Option Nat} {V : BC} {V1 : BC} {f : Nat → Int64} (e : bL V 6 f = V1) : (mW g ad kp tr V).set 6 (ad 6, .inl (g 1, 40, .inr (.inl f))) = mW g ad kp tr V1 := by subst e; rfl
theorem mW_7 {g : Nat → ClassId} {ad : Nat → Nat} {kp tr : Option Nat} {V : BC} : (mW g ad kp tr V)[7]? = some (ad 7, .inl (g 1, 40, .inr (.inl (V.2.2 7)))) := rfl
theorem mW_s7 {g : Nat → ClassId} {ad : Nat → Nat} {kp tr : Option Nat} {V : BC} {V1 : BC} {f : Nat → Int64} (e : bL V 7 f = V1) : (mW g ad kp tr V).set 7 (ad 7, .inl (g 1, 40, .inr (.inl f))) = mW g ad kp tr V1 := by subst e; rfl
theorem mW_8 {g : Nat → ClassId} {ad : Nat → Nat} {kp tr : Option Nat} {V : BC} : (mW g ad kp tr V)[8]? = some (ad 8, .inl (g 1, 40, .inr (.inl (V.2.2 8)))) := rfl
theorem mW_s8 {g : Nat → ClassId} {ad : Nat → Nat} {kp tr : Option Nat} {V : BC} {V1 : BC} {f : Nat → Int64} (e : bL V 8 f = V1) : (mW g ad kp tr V).set 8 (ad 8, .inl (g 1, 40, .inr (.inl f))) = mW g ad kp tr V1 := by subst e; rfl
theorem mW_9 {g : Nat → ClassId} {ad : Nat → Nat} {kp tr : Option Nat} {V : BC} : (mW g ad kp tr V)[9]? = some (ad 9, .inl (g 1, 40, .inr (.inl (V.2.2 9)))) := rfl
theorem mW_s9 {g : Nat → ClassId} {ad : Nat → Nat} {kp tr : Option Nat} {V : BC} {V1 : BC} {f : Nat → Int64} (e : bL V 9 f = V1) : (mW g ad kp tr V).set 9 (ad 9, .inl (g 1, 40, .inr (.inl f))) = mW g ad kp tr V1 := by subst e; rfl
theorem mW_10 {g : Nat → ClassId} {ad : Nat → Nat} {kp tr : Option Nat} {V : BC} : (mW g ad kp tr V)[10]? = some (ad 10, .inl (g 1, 40, .inr (.inl (V.2.2 10)))) := rfl
theorem mW_s10 {g : Nat → ClassId} {ad : Nat → Nat} {kp tr : Option Nat} {V : BC} {V1 : BC} {f : Nat → Int64} (e : bL V 10 f = V1) : (mW g ad kp tr V).set 10 (ad 10, .inl (g 1, 40, .inr (.inl f))) = mW g ad kp tr V1 := by subst e; rfl
theorem mW_11 {g : Nat → ClassId} {ad : Nat → Nat} {kp tr : Option Nat} {V : BC} : (mW g ad kp tr V)[11]? = some (ad 11, .inl (g 1, 40, .inr (.inl (V.2.2 11)))) := rfl
theorem mW_s11 {g : Nat → ClassId} {ad : Nat → Nat} {kp tr : Option Nat} {V : BC} {V1 : BC} {f : Nat → Int64} (e : bL V 11 f = V1) : (mW g ad kp tr V).set 11 (ad 11, .inl (g 1, 40, .inr (.inl f))) = mW g ad kp tr V1 := by subst e; rfl
theorem mW_12 {g : Nat → ClassId} {ad : Nat → Nat} {kp tr : Option Nat} {V : BC} : (mW g ad kp tr V)[12]? = some (ad 12, .inl (g 1, 40, .inr (.inl (V.2.2 12)))) := rfl
theorem mW_s12 {g : Nat → ClassId} {ad : Nat → Nat} {kp tr : Option Nat} {V : BC} {V1 : BC} {f : Nat → Int64} (e : bL V 12 f = V1) : (mW g ad kp tr V).set 12 (ad 12, .inl (g 1, 40, .inr (.inl f))) = mW g ad kp tr V1 := by subst e; rfl
theorem mW_13 {g : Nat → ClassId} {ad : Nat → Nat} {kp tr : Option Nat} {V : BC} : (mW g ad kp tr V)[13]? = some (ad 13, .inl (g 1, 40, .inr (.inl (V.2.2 13)))) := rfl
theorem mW_s13 {g : Nat → ClassId} {ad : Nat → Nat} {kp tr : Option Nat} {V : BC} {V1 : BC} {f : Nat → Int64} (e : bL V 13 f = V1) : (mW g ad kp tr V).set 13 (ad 13, .inl (g 1, 40, .inr (.inl f))) = mW g ad kp tr V1 := by subst e; rfl
theorem mW_14 {g : Nat → ClassId} {ad : Nat → Nat} {kp tr : Option Nat} {V : BC} : (mW g ad kp tr V)[14]? = some (ad 14, .inl (g 0, 8, .inl (V.1 14))) := rfl
theorem mW_s14 {g : Nat → ClassId} {ad : Nat → Nat} {kp tr : Option Nat} {V : BC} {V1 : BC} {f : Nat → Int32} (e : bI V 14 f = V1) : (mW g ad kp tr V).set 14 (ad 14, .inl (g 0, 8, .inl f)) = mW g ad kp tr V1 := by subst e; rfl
theorem mW_15 {g : Nat → ClassId} {ad : Nat → Nat} {kp tr : Option Nat} {V : BC} : (mW g ad kp tr V)[15]? = some (ad 15, .inl (g 0, 250, .inl (V.1 15))) := rfl
theorem mW_s15 {g : Nat → ClassId} {ad : Nat → Nat} {kp tr : Option Nat} {V : BC} {V1 : BC} {f : Nat → Int32} (e : bI V 15 f = V1) : (mW g ad kp tr V).set 15 (ad 15, .inl (g 0, 250, .inl f)) = mW g ad kp tr V1 := by subst e; rfl
theorem mW_16 {g : Nat → ClassId} {ad : Nat → Nat} {kp tr : Option Nat} {V : BC} : (mW g ad kp tr V)[16]? = some (ad 16, .inl (g 0, 8, .inl (V.1 16))) := rfl
theorem mW_s16 {g : Nat → ClassId} {ad : Nat → Nat} {kp tr : Option Nat} {V : BC} {V1 : BC} {f : Nat → Int32} (e : bI V 16 f = V1) : (mW g ad kp tr V).set 16 (ad 16, .inl (g 0, 8, .inl f)) = mW g ad kp tr V1 := by subst e; rfl
theorem mW_17 {g : Nat → ClassId} {ad : Nat → Nat} {kp tr : Option Nat} {V : BC} : (mW g ad kp tr V)[17]? = some (ad 17, .inl (g 7, 6, .inr (.inr (.inr (.inr (fun j => some (ad (18 + j)))))))) := rfl
theorem mW_r18 {g : Nat → ClassId} {ad : Nat → Nat} {kp tr : Option Nat} {V : BC} : ∀ {i : Nat}, i < 6 → (mW g ad kp tr V)[18 + i]? = some (ad (18 + i), .inl (g 0, 7, .inl (V.1 (18 + i))))
  | 0, _ => rfl
  | 1, _ => rfl
  | 2, _ => rfl
  | 3, _ => rfl
  | 4, _ => rfl
  | 5, _ => rfl
  | n + 6, h => absurd h (by omega)
theorem mW_rs18 {g : Nat → ClassId} {ad : Nat → Nat} {kp tr : Option Nat} {V : BC} {V1 : BC} {f : Nat → Int32} : ∀ {i : Nat}, i < 6 → bI V (18 + i) f = V1 → (mW g ad kp tr V).set (18 + i) (ad (18 + i), .inl (g 0, 7, .inl f)) = mW g ad kp tr V1
  | 0, _, e => by subst e; rfl
  | 1, _, e => by subst e; rfl
  | 2, _, e => by subst e; rfl
  | 3, _, e => by subst e; rfl
  | 4, _, e => by subst e; rfl
  | 5, _, e => by subst e; rfl
  | n + 6, h, _ => absurd h (by omega)
theorem mW_18 {g : Nat → ClassId} {ad : Nat → Nat} {kp tr : Option Nat} {V : BC} : (mW g ad kp tr V)[18]? = some (ad 18, .inl (g 0, 7, .inl (V.1 18))) := rfl
theorem mW_s18 {g : Nat → ClassId} {ad : Nat → Nat} {kp tr : Option Nat} {V : BC} {V1 : BC} {f : Nat → Int32} (e : bI V 18 f = V1) : (mW g ad kp tr V).set 18 (ad 18, .inl (g 0, 7, .inl f)) = mW g ad kp tr V1 := by subst e; rfl
theorem mW_19 {g : Nat → ClassId} {ad : Nat → Nat} {kp tr : Option Nat} {V : BC} : (mW g ad kp tr V)[19]? = some (ad 19, .inl (g 0, 7, .inl (V.1 19))) := rfl
theorem mW_s19 {g : Nat → ClassId} {ad : Nat → Nat} {kp tr : Option Nat} {V : BC} {V1 : BC} {f : Nat → Int32} (e : bI V 19 f = V1) : (mW g ad kp tr V).set 19 (ad 19, .inl (g 0, 7, .inl f)) = mW g ad kp tr V1 := by subst e; rfl
theorem mW_20 {g : Nat → ClassId} {ad : Nat → Nat} {kp tr : Option Nat} {V : BC} : (mW g ad kp tr V)[20]? = some (ad 20, .inl (g 0, 7, .inl (V.1 20))) := rfl
theorem mW_s20 {g : Nat → ClassId} {ad : Nat → Nat} {kp tr : Option Nat} {V : BC} {V1 : BC} {f : Nat → Int32} (e : bI V 20 f = V1) : (mW g ad kp tr V).set 20 (ad 20, .inl (g 0, 7, .inl f)) = mW g ad kp tr V1 := by subst e; rfl
theorem mW_21 {g : Nat → ClassId} {ad : Nat → Nat} {kp tr : Option Nat} {V : BC} : (mW g ad kp tr V)[21]? = some (ad 21, .inl (g 0, 7, .inl (V.1 21))) := rfl
theorem mW_s21 {g : Nat → ClassId} {ad : Nat → Nat} {kp tr : Option Nat} {V : BC} {V1 : BC} {f : Nat → Int32} (e : bI V 21 f = V1) : (mW g ad kp tr V).set 21 (ad 21, .inl (g 0, 7, .inl f)) = mW g ad kp tr V1 := by subst e; rfl
theorem mW_22 {g : Nat → ClassId} {ad : Nat → Nat} {kp tr : Option Nat} {V : BC} : (mW g ad kp tr V)[22]? = some (ad 22, .inl (g 0, 7, .inl (V.1 22))) := rfl
theorem mW_s22 {g : Nat → ClassId} {ad : Nat → Nat} {kp tr : Option Nat} {V : BC} {V1 : BC} {f : Nat → Int32} (e : bI V 22 f = V1) : (mW g ad kp tr V).set 22 (ad 22, .inl (g 0, 7, .inl f)) = mW g ad kp tr V1 := by subst e; rfl
theorem mW_23 {g : Nat → ClassId} {ad : Nat → Nat} {kp tr : Option Nat} {V : BC} : (mW g ad kp tr V)[23]? = some (ad 23, .inl (g 0, 7, .inl (V.1 23))) := rfl
theorem mW_s23 {g : Nat → ClassId} {ad : Nat → Nat} {kp tr : Option Nat} {V : BC} {V1 : BC} {f : Nat → Int32} (e : bI V 23 f = V1) : (mW g ad kp tr V).set 23 (ad 23, .inl (g 0, 7, .inl f)) = mW g ad kp tr V1 := by subst e; rfl
theorem mW_24 {g : Nat → ClassId} {ad : Nat → Nat} {kp tr : Option Nat} {V : BC} : (mW g ad kp tr V)[24]? = some (ad 24, .inl (g 7, 6, .inr (.inr (.inr (.inr (fun j => some (ad (25 + j)))))))) := rfl
theorem mW_r25 {g : Nat → ClassId} {ad : Nat → Nat} {kp tr : Option Nat} {V : BC} : ∀ {i : Nat}, i < 6 → (mW g ad kp tr V)[25 + i]? = some (ad (25 + i), .inl (g 0, 3, .inl (V.1 (25 + i))))
  | 0, _ => rfl
  | 1, _ => rfl
  | 2, _ => rfl
  | 3, _ => rfl
  | 4, _ => rfl
  | 5, _ => rfl
  | n + 6, h => absurd h (by omega)
theorem mW_rs25 {g : Nat → ClassId} {ad : Nat → Nat} {kp tr : Option Nat} {V : BC} {V1 : BC} {f : Nat → Int32} : ∀ {i : Nat}, i < 6 → bI V (25 + i) f = V1 → (mW g ad kp tr V).set (25 + i) (ad (25 + i), .inl (g 0, 3, .inl f)) = mW g ad kp tr V1
  | 0, _, e => by subst e; rfl
  | 1, _, e => by subst e; rfl
  | 2, _, e => by subst e; rfl
  | 3, _, e => by subst e; rfl
  | 4, _, e => by subst e; rfl
  | 5, _, e => by subst e; rfl
  | n + 6, h, _ => absurd h (by omega)
theorem mW_25 {g : Nat → ClassId} {ad : Nat → Nat} {kp tr : Option Nat} {V : BC} : (mW g ad kp tr V)[25]? = some (ad 25, .inl (g 0, 3, .inl (V.1 25))) := rfl
theorem mW_s25 {g : Nat → ClassId} {ad : Nat → Nat} {kp tr : Option Nat} {V : BC} {V1 : BC} {f : Nat → Int32} (e : bI V 25 f = V1) : (mW g ad kp tr V).set 25 (ad 25, .inl (g 0, 3, .inl f)) = mW g ad kp tr V1 := by subst e; rfl
theorem mW_26 {g : Nat → ClassId} {ad : Nat → Nat} {kp tr : Option Nat} {V : BC} : (mW g ad kp tr V)[26]? = some (ad 26, .inl (g 0, 3, .inl (V.1 26))) := rfl
theorem mW_s26 {g : Nat → ClassId} {ad : Nat → Nat} {kp tr : Option Nat} {V : BC} {V1 : BC} {f : Nat → Int32} (e : bI V 26 f = V1) : (mW g ad kp tr V).set 26 (ad 26, .inl (g 0, 3, .inl f)) = mW g ad kp tr V1 := by subst e; rfl
theorem mW_27 {g : Nat → ClassId} {ad : Nat → Nat} {kp tr : Option Nat} {V : BC} : (mW g ad kp tr V)[27]? = some (ad 27, .inl (g 0, 3, .inl (V.1 27))) := rfl
theorem mW_s27 {g : Nat → ClassId} {ad : Nat → Nat} {kp tr : Option Nat} {V : BC} {V1 : BC} {f : Nat → Int32} (e : bI V 27 f = V1) : (mW g ad kp tr V).set 27 (ad 27, .inl (g 0, 3, .inl f)) = mW g ad kp tr V1 := by subst e; rfl
theorem mW_28 {g : Nat → ClassId} {ad : Nat → Nat} {kp tr : Option Nat} {V : BC} : (mW g ad kp tr V)[28]? = some (ad 28, .inl (g 0, 3, .inl (V.1 28))) := rfl
theorem mW_s28 {g : Nat → ClassId} {ad : Nat → Nat} {kp tr : Option Nat} {V : BC} {V1 : BC} {f : Nat → Int32} (e : bI V 28 f = V1) : (mW g ad kp tr V).set 28 (ad 28, .inl (g 0, 3, .inl f)) = mW g ad kp tr V1 := by subst e; rfl
theorem mW_29 {g : Nat → ClassId} {ad : Nat → Nat} {kp tr : Option Nat} {V : BC} : (mW g ad kp tr V)[29]? = some (ad 29, .inl (g 0, 3, .inl (V.1 29))) := rfl
theorem mW_s29 {g : Nat → ClassId} {ad : Nat → Nat} {kp tr : Option Nat} {V : BC} {V1 : BC} {f : Nat → Int32} (e : bI V 29 f = V1) : (mW g ad kp tr V).set 29 (ad 29, .inl (g 0, 3, .inl f)) = mW g ad kp tr V1 := by subst e; rfl
theorem mW_30 {g : Nat → ClassId} {ad : Nat → Nat} {kp tr : Option Nat} {V : BC} : (mW g ad kp tr V)[30]? = some (ad 30, .inl (g 0, 3, .inl (V.1 30))) := rfl
theorem mW_s30 {g : Nat → ClassId} {ad : Nat → Nat} {kp tr : Option Nat} {V : BC} {V1 : BC} {f : Nat → Int32} (e : bI V 30 f = V1) : (mW g ad kp tr V).set 30 (ad 30, .inl (g 0, 3, .inl f)) = mW g ad kp tr V1 := by subst e; rfl
theorem mW_31 {g : Nat → ClassId} {ad : Nat → Nat} {kp tr : Option Nat} {V : BC} : (mW g ad kp tr V)[31]? = some (ad 31, .inl (g 0, 3, .inl (V.1 31))) := rfl
theorem mW_s31 {g : Nat → ClassId} {ad : Nat → Nat} {kp tr : Option Nat} {V : BC} {V1 : BC} {f : Nat → Int32} (e : bI V 31 f = V1) : (mW g ad kp tr V).set 31 (ad 31, .inl (g 0, 3, .inl f)) = mW g ad kp tr V1 := by subst e; rfl
theorem mW_32 {g : Nat → ClassId} {ad : Nat → Nat} {kp tr : Option Nat} {V : BC} : (mW g ad kp tr V)[32]? = some (ad 32, .inl (g 7, 6, .inr (.inr (.inr (.inr (fun j => some (ad (33 + j)))))))) := rfl
theorem mW_r33 {g : Nat → ClassId} {ad : Nat → Nat} {kp tr : Option Nat} {V : BC} : ∀ {i : Nat}, i < 6 → (mW g ad kp tr V)[33 + i]? = some (ad (33 + i), .inl (g 0, 6, .inl (V.1 (33 + i))))
  | 0, _ => rfl
  | 1, _ => rfl
  | 2, _ => rfl
  | 3, _ => rfl
  | 4, _ => rfl
  | 5, _ => rfl
  | n + 6, h => absurd h (by omega)
theorem mW_rs33 {g : Nat → ClassId} {ad : Nat → Nat} {kp tr : Option Nat} {V : BC} {V1 : BC} {f : Nat → Int32} : ∀ {i : Nat}, i < 6 → bI V (33 + i) f = V1 → (mW g ad kp tr V).set (33 + i) (ad (33 + i), .inl (g 0, 6, .inl f)) = mW g ad kp tr V1
  | 0, _, e => by subst e; rfl
  | 1, _, e => by subst e; rfl
  | 2, _, e => by subst e; rfl
  | 3, _, e => by subst e; rfl
  | 4, _, e => by subst e; rfl
  | 5, _, e => by subst e; rfl
  | n + 6, h, _ => absurd h (by omega)
theorem mW_33 {g : Nat → ClassId} {ad : Nat → Nat} {kp tr : Option Nat} {V : BC} : (mW g ad kp tr V)[33]? = some (ad 33, .inl (g 0, 6, .inl (V.1 33))) := rfl
theorem mW_s33 {g : Nat → ClassId} {ad : Nat → Nat} {kp tr : Option Nat} {V : BC} {V1 : BC} {f : Nat → Int32} (e : bI V 33 f = V1) : (mW g ad kp tr V).set 33 (ad 33, .inl (g 0, 6, .inl f)) = mW g ad kp tr V1 := by subst e; rfl
theorem mW_34 {g : Nat → ClassId} {ad : Nat → Nat} {kp tr : Option Nat} {V : BC} : (mW g ad kp tr V)[34]? = some (ad 34, .inl (g 0, 6, .inl (V.1 34))) := rfl
theorem mW_s34 {g : Nat → ClassId} {ad : Nat → Nat} {kp tr : Option Nat} {V : BC} {V1 : BC} {f : Nat → Int32} (e : bI V 34 f = V1) : (mW g ad kp tr V).set 34 (ad 34, .inl (g 0, 6, .inl f)) = mW g ad kp tr V1 := by subst e; rfl
theorem mW_35 {g : Nat → ClassId} {ad : Nat → Nat} {kp tr : Option Nat} {V : BC} : (mW g ad kp tr V)[35]? = some (ad 35, .inl (g 0, 6, .inl (V.1 35))) := rfl
theorem mW_s35 {g : Nat → ClassId} {ad : Nat → Nat} {kp tr : Option Nat} {V : BC} {V1 : BC} {f : Nat → Int32} (e : bI V 35 f = V1) : (mW g ad kp tr V).set 35 (ad 35, .inl (g 0, 6, .inl f)) = mW g ad kp tr V1 := by subst e; rfl
theorem mW_36 {g : Nat → ClassId} {ad : Nat → Nat} {kp tr : Option Nat} {V : BC} : (mW g ad kp tr V)[36]? = some (ad 36, .inl (g 0, 6, .inl (V.1 36))) := rfl
theorem mW_s36 {g : Nat → ClassId} {ad : Nat → Nat} {kp tr : Option Nat} {V : BC} {V1 : BC} {f : Nat → Int32} (e : bI V 36 f = V1) : (mW g ad kp tr V).set 36 (ad 36, .inl (g 0, 6, .inl f)) = mW g ad kp tr V1 := by subst e; rfl
theorem mW_37 {g : Nat → ClassId} {ad : Nat → Nat} {kp tr : Option Nat} {V : BC} : (mW g ad kp tr V)[37]? = some (ad 37, .inl (g 0, 6, .inl (V.1 37))) := rfl
theorem mW_s37 {g : Nat → ClassId} {ad : Nat → Nat} {kp tr : Option Nat} {V : BC} {V1 : BC} {f : Nat → Int32} (e : bI V 37 f = V1) : (mW g ad kp tr V).set 37 (ad 37, .inl (g 0, 6, .inl f)) = mW g ad kp tr V1 := by subst e; rfl
theorem mW_38 {g : Nat → ClassId} {ad : Nat → Nat} {kp tr : Option Nat} {V : BC} : (mW g ad kp tr V)[38]? = some (ad 38, .inl (g 0, 6, .inl (V.1 38))) := rfl
theorem mW_s38 {g : Nat → ClassId} {ad : Nat → Nat} {kp tr : Option Nat} {V : BC} {V1 : BC} {f : Nat → Int32} (e : bI V 38 f = V1) : (mW g ad kp tr V).set 38 (ad 38, .inl (g 0, 6, .inl f)) = mW g ad kp tr V1 := by subst e; rfl
theorem mW_39 {g : Nat → ClassId} {ad : Nat → Nat} {kp tr : Option Nat} {V : BC} : (mW g ad kp tr V)[39]? = some (ad 39, .inl (g 0, 6, .inl (V.1 39))) := rfl
theorem mW_s39 {g : Nat → ClassId} {ad : Nat → Nat} {kp tr : Option Nat} {V : BC} {V1 : BC} {f : Nat → Int32} (e : bI V 39 f = V1) : (mW g ad kp tr V).set 39 (ad 39, .inl (g 0, 6, .inl f)) = mW g ad kp tr V1 := by subst e; rfl
theorem mW_40 {g : Nat → ClassId} {ad : Nat → Nat} {kp tr : Option Nat} {V : BC} : (mW g ad kp tr V)[40]? = some (ad 40, .inl (g 0, 6, .inl (V.1 40))) := rfl
theorem mW_s40 {g : Nat → ClassId} {ad : Nat → Nat} {kp tr : Option Nat} {V : BC} {V1 : BC} {f : Nat → Int32} (e : bI V 40 f = V1) : (mW g ad kp tr V).set 40 (ad 40, .inl (g 0, 6, .inl f)) = mW g ad kp tr V1 := by subst e; rfl
theorem mW_41 {g : Nat → ClassId} {ad : Nat → Nat} {kp tr : Option Nat} {V : BC} : (mW g ad kp tr V)[41]? = some (ad 41, .inl (g 0, 6, .inl (V.1 41))) := rfl
theorem mW_s41 {g : Nat → ClassId} {ad : Nat → Nat} {kp tr : Option Nat} {V : BC} {V1 : BC} {f : Nat → Int32} (e : bI V 41 f = V1) : (mW g ad kp tr V).set 41 (ad 41, .inl (g 0, 6, .inl f)) = mW g ad kp tr V1 := by subst e; rfl
theorem mW_42 {g : Nat → ClassId} {ad : Nat → Nat} {kp tr : Option Nat} {V : BC} : (mW g ad kp tr V)[42]? = some (ad 42, .inl (g 0, 6, .inl (V.1 42))) := rfl
theorem mW_s42 {g : Nat → ClassId} {ad : Nat → Nat} {kp tr : Option Nat} {V : BC} {V1 : BC} {f : Nat → Int32} (e : bI V 42 f = V1) : (mW g ad kp tr V).set 42 (ad 42, .inl (g 0, 6, .inl f)) = mW g ad kp tr V1 := by subst e; rfl
theorem mW_43 {g : Nat → ClassId} {ad : Nat → Nat} {kp tr : Option Nat} {V : BC} : (mW g ad kp tr V)[43]? = some (ad 43, .inl (g 0, 6, .inl (V.1 43))) := rfl
theorem mW_s43 {g : Nat → ClassId} {ad : Nat → Nat} {kp tr : Option Nat} {V : BC} {V1 : BC} {f : Nat → Int32} (e : bI V 43 f = V1) : (mW g ad kp tr V).set 43 (ad 43, .inl (g 0, 6, .inl f)) = mW g ad kp tr V1 := by subst e; rfl
theorem mW_44 {g : Nat → ClassId} {ad : Nat → Nat} {kp tr : Option Nat} {V : BC} : (mW g ad kp tr V)[44]? = some (ad 44, .inl (g 0, 3, .inl (V.1 44))) := rfl
theorem mW_s44 {g : Nat → ClassId} {ad : Nat → Nat} {kp tr : Option Nat} {V : BC} {V1 : BC} {f : Nat → Int32} (e : bI V 44 f = V1) : (mW g ad kp tr V).set 44 (ad 44, .inl (g 0, 3, .inl f)) = mW g ad kp tr V1 := by subst e; rfl
def xWf (ad : Nat → Nat) (nw tr : Nat) (im : Option Nat) (V : BC) : List Value := [.ref nw, va_rf im, .ref tr, .ref (ad 1), .ref (ad 10), .int (V.1 0 0), .ref (ad 11)]
def xWf2 (ad : Nat → Nat) (nw tr : Nat) (im : Option Nat) (V : BC) : List Value := [va_rf (V.2.1 1 0)]
def xWf3 (ad : Nat → Nat) (nw tr : Nat) (im : Option Nat) (V : BC) : List Value := [va_rf (V.2.1 1 1)]
def xWf4 (ad : Nat → Nat) (nw tr : Nat) (im : Option Nat) (V : BC) : List Value := [va_rf (V.2.1 1 2)]
def xWf5 (ad : Nat → Nat) (nw tr : Nat) (im : Option Nat) (V : BC) : List Value := [va_rf (V.2.1 1 3)]
def xWf6 (ad : Nat → Nat) (nw tr : Nat) (im : Option Nat) (V : BC) : List Value := [va_rf (V.2.1 1 4)]
def xWf7 (ad : Nat → Nat) (nw tr : Nat) (im : Option Nat) (V : BC) : List Value := [va_rf (V.2.1 1 5)]
def xWf8 (ad : Nat → Nat) (nw tr : Nat) (im : Option Nat) (V : BC) : List Value := [va_rf (V.2.1 1 6)]
def xWf9 (ad : Nat → Nat) (nw tr : Nat) (im : Option Nat) (V : BC) : List Value := [va_rf (V.2.1 1 7)]
def xW (g : Nat → ClassId) (ad : Nat → Nat) (nw tr : Nat) (im : Option Nat) (V : BC) : va_W := [(ad 0, .inr (0, xWf ad nw tr im V)), (ad 1, .inl (g 6, 8, .inr (.inr (.inr (.inr (fun j => some (ad (2 + j)))))))), (ad 2, .inr (2, xWf2 ad nw tr im V)), (ad 3, .inr (2, xWf3 ad nw tr im V)), (ad 4, .inr (2, xWf4 ad nw tr im V)), (ad 5, .inr (2, xWf5 ad nw tr im V)), (ad 6, .inr (2, xWf6 ad nw tr im V)), (ad 7, .inr (2, xWf7 ad nw tr im V)), (ad 8, .inr (2, xWf8 ad nw tr im V)), (ad 9, .inr (2, xWf9 ad nw tr im V)), (ad 10, .inl (g 0, 250, .inl (V.1 10))), (ad 11, .inl (g 0, 7, .inl (V.1 11)))]
theorem xW_0 {g : Nat → ClassId} {ad : Nat → Nat} {nw tr : Nat} {im : Option Nat} {V : BC} : (xW g ad nw tr im V)[0]? = some (ad 0, .inr (0, xWf ad nw tr im V)) := rfl
theorem xW_l {ad : Nat → Nat} {nw tr : Nat} {im : Option Nat} {V : BC} : (xWf ad nw tr im V).length = 7 := rfl
theorem xW_g0 {ad : Nat → Nat} {nw tr : Nat} {im : Option Nat} {V : BC} : (xWf ad nw tr im V)[0]? = some (.ref nw) := rfl
theorem xW_g1 {ad : Nat → Nat} {nw tr : Nat} {im : Option Nat} {V : BC} : (xWf ad nw tr im V)[1]? = some (va_rf im) := rfl
theorem xW_p1 {g : Nat → ClassId} {ad : Nat → Nat} {nw tr : Nat} {im : Option Nat} {V : BC} {x : Option Nat} : (xW g ad nw tr im V).set 0 (ad 0, .inr (0, (xWf ad nw tr im V).set 1 (va_rf x))) = xW g ad nw tr x V := rfl
theorem xW_g2 {ad : Nat → Nat} {nw tr : Nat} {im : Option Nat} {V : BC} : (xWf ad nw tr im V)[2]? = some (.ref tr) := rfl
theorem xW_g3 {ad : Nat → Nat} {nw tr : Nat} {im : Option Nat} {V : BC} : (xWf ad nw tr im V)[3]? = some (.ref (ad 1)) := rfl
theorem xW_g4 {ad : Nat → Nat} {nw tr : Nat} {im : Option Nat} {V : BC} : (xWf ad nw tr im V)[4]? = some (.ref (ad 10)) := rfl
theorem xW_g5 {ad : Nat → Nat} {nw tr : Nat} {im : Option Nat} {V : BC} : (xWf ad nw tr im V)[5]? = some (.int (V.1 0 0)) := rfl
theorem xW_p5 {g : Nat → ClassId} {ad : Nat → Nat} {nw tr : Nat} {im : Option Nat} {V : BC} {V1 : BC} {x : Int32} (e : bI V 0 (upd (V.1 0) 0 x) = V1) : (xW g ad nw tr im V).set 0 (ad 0, .inr (0, (xWf ad nw tr im V).set 5 (.int x))) = xW g ad nw tr im V1 := by subst e; rfl
theorem xW_g6 {ad : Nat → Nat} {nw tr : Nat} {im : Option Nat} {V : BC} : (xWf ad nw tr im V)[6]? = some (.ref (ad 11)) := rfl
theorem xW_1 {g : Nat → ClassId} {ad : Nat → Nat} {nw tr : Nat} {im : Option Nat} {V : BC} : (xW g ad nw tr im V)[1]? = some (ad 1, .inl (g 6, 8, .inr (.inr (.inr (.inr (fun j => some (ad (2 + j)))))))) := rfl
theorem xW_r2 {g : Nat → ClassId} {ad : Nat → Nat} {nw tr : Nat} {im : Option Nat} {V : BC} : ∀ {i : Nat}, i < 8 → (xW g ad nw tr im V)[2 + i]? = some (ad (2 + i), .inr (2, [va_rf (V.2.1 1 i)]))
  | 0, _ => rfl
  | 1, _ => rfl
  | 2, _ => rfl
  | 3, _ => rfl
  | 4, _ => rfl
  | 5, _ => rfl
  | 6, _ => rfl
  | 7, _ => rfl
  | n + 8, h => absurd h (by omega)
theorem xW_rs2 {g : Nat → ClassId} {ad : Nat → Nat} {nw tr : Nat} {im : Option Nat} {V : BC} {V1 : BC} {x : Option Nat} : ∀ {i : Nat}, i < 8 → bR V 1 (va_up (V.2.1 1) i x) = V1 → (xW g ad nw tr im V).set (2 + i) (ad (2 + i), .inr (2, ([va_rf (V.2.1 1 i)] : List Value).set 0 (va_rf x))) = xW g ad nw tr im V1
  | 0, _, e => by subst e; rfl
  | 1, _, e => by subst e; rfl
  | 2, _, e => by subst e; rfl
  | 3, _, e => by subst e; rfl
  | 4, _, e => by subst e; rfl
  | 5, _, e => by subst e; rfl
  | 6, _, e => by subst e; rfl
  | 7, _, e => by subst e; rfl
  | n + 8, h, _ => absurd h (by omega)
theorem xW_2 {g : Nat → ClassId} {ad : Nat → Nat} {nw tr : Nat} {im : Option Nat} {V : BC} : (xW g ad nw tr im V)[2]? = some (ad 2, .inr (2, xWf2 ad nw tr im V)) := rfl
theorem xW_2_l {ad : Nat → Nat} {nw tr : Nat} {im : Option Nat} {V : BC} : (xWf2 ad nw tr im V).length = 1 := rfl
theorem xW_2_g0 {ad : Nat → Nat} {nw tr : Nat} {im : Option Nat} {V : BC} : (xWf2 ad nw tr im V)[0]? = some (va_rf (V.2.1 1 0)) := rfl
theorem xW_2_p0 {g : Nat → ClassId} {ad : Nat → Nat} {nw tr : Nat} {im : Option Nat} {V : BC} {V1 : BC} {x : Option Nat} (e : bR V 1 (va_up (V.2.1 1) 0 x) = V1) : (xW g ad nw tr im V).set 2 (ad 2, .inr (2, (xWf2 ad nw tr im V).set 0 (va_rf x))) = xW g ad nw tr im V1 := by subst e; rfl
theorem xW_3 {g : Nat → ClassId} {ad : Nat → Nat} {nw tr : Nat} {im : Option Nat} {V : BC} : (xW g ad nw tr im V)[3]? = some (ad 3, .inr (2, xWf3 ad nw tr im V)) := rfl
theorem xW_3_l {ad : Nat → Nat} {nw tr : Nat} {im : Option Nat} {V : BC} : (xWf3 ad nw tr im V).length = 1 := rfl
theorem xW_3_g0 {ad : Nat → Nat} {nw tr : Nat} {im : Option Nat} {V : BC} : (xWf3 ad nw tr im V)[0]? = some (va_rf (V.2.1 1 1)) := rfl
theorem xW_3_p0 {g : Nat → ClassId} {ad : Nat → Nat} {nw tr : Nat} {im : Option Nat} {V : BC} {V1 : BC} {x : Option Nat} (e : bR V 1 (va_up (V.2.1 1) 1 x) = V1) : (xW g ad nw tr im V).set 3 (ad 3, .inr (2, (xWf3 ad nw tr im V).set 0 (va_rf x))) = xW g ad nw tr im V1 := by subst e; rfl
theorem xW_4 {g : Nat → ClassId} {ad : Nat → Nat} {nw tr : Nat} {im : Option Nat} {V : BC} : (xW g ad nw tr im V)[4]? = some (ad 4, .inr (2, xWf4 ad nw tr im V)) := rfl
theorem xW_4_l {ad : Nat → Nat} {nw tr : Nat} {im : Option Nat} {V : BC} : (xWf4 ad nw tr im V).length = 1 := rfl
theorem xW_4_g0 {ad : Nat → Nat} {nw tr : Nat} {im : Option Nat} {V : BC} : (xWf4 ad nw tr im V)[0]? = some (va_rf (V.2.1 1 2)) := rfl
theorem xW_4_p0 {g : Nat → ClassId} {ad : Nat → Nat} {nw tr : Nat} {im : Option Nat} {V : BC} {V1 : BC} {x : Option Nat} (e : bR V 1 (va_up (V.2.1 1) 2 x) = V1) : (xW g ad nw tr im V).set 4 (ad 4, .inr (2, (xWf4 ad nw tr im V).set 0 (va_rf x))) = xW g ad nw tr im V1 := by subst e; rfl
theorem xW_5 {g : Nat → ClassId} {ad : Nat → Nat} {nw tr : Nat} {im : Option Nat} {V : BC} : (xW g ad nw tr im V)[5]? = some (ad 5, .inr (2, xWf5 ad nw tr im V)) := rfl
theorem xW_5_l {ad : Nat → Nat} {nw tr : Nat} {im : Option Nat} {V : BC} : (xWf5 ad nw tr im V).length = 1 := rfl
theorem xW_5_g0 {ad : Nat → Nat} {nw tr : Nat} {im : Option Nat} {V : BC} : (xWf5 ad nw tr im V)[0]? = some (va_rf (V.2.1 1 3)) := rfl
theorem xW_5_p0 {g : Nat → ClassId} {ad : Nat → Nat} {nw tr : Nat} {im : Option Nat} {V : BC} {V1 : BC} {x : Option Nat} (e : bR V 1 (va_up (V.2.1 1) 3 x) = V1) : (xW g ad nw tr im V).set 5 (ad 5, .inr (2, (xWf5 ad nw tr im V).set 0 (va_rf x))) = xW g ad nw tr im V1 := by subst e; rfl
theorem xW_6 {g : Nat → ClassId} {ad : Nat → Nat} {nw tr : Nat} {im : Option Nat} {V : BC} : (xW g ad nw tr im V)[6]? = some (ad 6, .inr (2, xWf6 ad nw tr im V)) := rfl
theorem xW_6_l {ad : Nat → Nat} {nw tr : Nat} {im : Option Nat} {V : BC} : (xWf6 ad nw tr im V).length = 1 := rfl
theorem xW_6_g0 {ad : Nat → Nat} {nw tr : Nat} {im : Option Nat} {V : BC} : (xWf6 ad nw tr im V)[0]? = some (va_rf (V.2.1 1 4)) := rfl
theorem xW_6_p0 {g : Nat → ClassId} {ad : Nat → Nat} {nw tr : Nat} {im : Option Nat} {V : BC} {V1 : BC} {x : Option Nat} (e : bR V 1 (va_up (V.2.1 1) 4 x) = V1) : (xW g ad nw tr im V).set 6 (ad 6, .inr (2, (xWf6 ad nw tr im V).set 0 (va_rf x))) = xW g ad nw tr im V1 := by subst e; rfl
theorem xW_7 {g : Nat → ClassId} {ad : Nat → Nat} {nw tr : Nat} {im : Option Nat} {V : BC} : (xW g ad nw tr im V)[7]? = some (ad 7, .inr (2, xWf7 ad nw tr im V)) := rfl
theorem xW_7_l {ad : Nat → Nat} {nw tr : Nat} {im : Option Nat} {V : BC} : (xWf7 ad nw tr im V).length = 1 := rfl
theorem xW_7_g0 {ad : Nat → Nat} {nw tr : Nat} {im : Option Nat} {V : BC} : (xWf7 ad nw tr im V)[0]? = some (va_rf (V.2.1 1 5)) := rfl
theorem xW_7_p0 {g : Nat → ClassId} {ad : Nat → Nat} {nw tr : Nat} {im : Option Nat} {V : BC} {V1 : BC} {x : Option Nat} (e : bR V 1 (va_up (V.2.1 1) 5 x) = V1) : (xW g ad nw tr im V).set 7 (ad 7, .inr (2, (xWf7 ad nw tr im V).set 0 (va_rf x))) = xW g ad nw tr im V1 := by subst e; rfl
theorem xW_8 {g : Nat → ClassId} {ad : Nat → Nat} {nw tr : Nat} {im : Option Nat} {V : BC} : (xW g ad nw tr im V)[8]? = some (ad 8, .inr (2, xWf8 ad nw tr im V)) := rfl
theorem xW_8_l {ad : Nat → Nat} {nw tr : Nat} {im : Option Nat} {V : BC} : (xWf8 ad nw tr im V).length = 1 := rfl
theorem xW_8_g0 {ad : Nat → Nat} {nw tr : Nat} {im : Option Nat} {V : BC} : (xWf8 ad nw tr im V)[0]? = some (va_rf (V.2.1 1 6)) := rfl
theorem xW_8_p0 {g : Nat → ClassId} {ad : Nat → Nat} {nw tr : Nat} {im : Option Nat} {V : BC} {V1 : BC} {x : Option Nat} (e : bR V 1 (va_up (V.2.1 1) 6 x) = V1) : (xW g ad nw tr im V).set 8 (ad 8, .inr (2, (xWf8 ad nw tr im V).set 0 (va_rf x))) = xW g ad nw tr im V1 := by subst e; rfl
theorem xW_9 {g : Nat → ClassId} {ad : Nat → Nat} {nw tr : Nat} {im : Option Nat} {V : BC} : (xW g ad nw tr im V)[9]? = some (ad 9, .inr (2, xWf9 ad nw tr im V)) := rfl
theorem xW_9_l {ad : Nat → Nat} {nw tr : Nat} {im : Option Nat} {V : BC} : (xWf9 ad nw tr im V).length = 1 := rfl
theorem xW_9_g0 {ad : Nat → Nat} {nw tr : Nat} {im : Option Nat} {V : BC} : (xWf9 ad nw tr im V)[0]? = some (va_rf (V.2.1 1 7)) := rfl
theorem xW_9_p0 {g : Nat → ClassId} {ad : Nat → Nat} {nw tr : Nat} {im : Option Nat} {V : BC} {V1 : BC} {x : Option Nat} (e : bR V 1 (va_up (V.2.1 1) 7 x) = V1) : (xW g ad nw tr im V).set 9 (ad 9, .inr (2, (xWf9 ad nw tr im V).set 0 (va_rf x))) = xW g ad nw tr im V1 := by subst e; rfl
theorem xW_10 {g : Nat → ClassId} {ad : Nat → Nat} {nw tr : Nat} {im : Option Nat} {V : BC} : (xW g ad nw tr im V)[10]? = some (ad 10, .inl (g 0, 250, .inl (V.1 10))) := rfl
theorem xW_s10 {g : Nat → ClassId} {ad : Nat → Nat} {nw tr : Nat} {im : Option Nat} {V : BC} {V1 : BC} {f : Nat → Int32} (e : bI V 10 f = V1) : (xW g ad nw tr im V).set 10 (ad 10, .inl (g 0, 250, .inl f)) = xW g ad nw tr im V1 := by subst e; rfl
theorem xW_11 {g : Nat → ClassId} {ad : Nat → Nat} {nw tr : Nat} {im : Option Nat} {V : BC} : (xW g ad nw tr im V)[11]? = some (ad 11, .inl (g 0, 7, .inl (V.1 11))) := rfl
theorem xW_s11 {g : Nat → ClassId} {ad : Nat → Nat} {nw tr : Nat} {im : Option Nat} {V : BC} {V1 : BC} {f : Nat → Int32} (e : bI V 11 f = V1) : (xW g ad nw tr im V).set 11 (ad 11, .inl (g 0, 7, .inl f)) = xW g ad nw tr im V1 := by subst e; rfl
def sWf (ad : Nat → Nat) (xa : Nat) (V : BC) : List Value := [.int (V.1 0 0), .ref (ad 1), .ref (ad 2), .int (V.1 0 1), .int (V.1 0 2), .ref xa]
def sW (g : Nat → ClassId) (ad : Nat → Nat) (xa : Nat) (V : BC) : va_W := [(ad 0, .inr (13, sWf ad xa V)), (ad 1, .inl (g 0, 3, .inl (V.1 1))), (ad 2, .inl (g 0, 3, .inl (V.1 2)))]
theorem sW_0 {g : Nat → ClassId} {ad : Nat → Nat} {xa : Nat} {V : BC} : (sW g ad xa V)[0]? = some (ad 0, .inr (13, sWf ad xa V)) := rfl
theorem sW_l {ad : Nat → Nat} {xa : Nat} {V : BC} : (sWf ad xa V).length = 6 := rfl
theorem sW_g0 {ad : Nat → Nat} {xa : Nat} {V : BC} : (sWf ad xa V)[0]? = some (.int (V.1 0 0)) := rfl
theorem sW_p0 {g : Nat → ClassId} {ad : Nat → Nat} {xa : Nat} {V : BC} {V1 : BC} {x : Int32} (e : bI V 0 (upd (V.1 0) 0 x) = V1) : (sW g ad xa V).set 0 (ad 0, .inr (13, (sWf ad xa V).set 0 (.int x))) = sW g ad xa V1 := by subst e; rfl
theorem sW_g1 {ad : Nat → Nat} {xa : Nat} {V : BC} : (sWf ad xa V)[1]? = some (.ref (ad 1)) := rfl
theorem sW_g2 {ad : Nat → Nat} {xa : Nat} {V : BC} : (sWf ad xa V)[2]? = some (.ref (ad 2)) := rfl
theorem sW_g3 {ad : Nat → Nat} {xa : Nat} {V : BC} : (sWf ad xa V)[3]? = some (.int (V.1 0 1)) := rfl
theorem sW_p3 {g : Nat → ClassId} {ad : Nat → Nat} {xa : Nat} {V : BC} {V1 : BC} {x : Int32} (e : bI V 0 (upd (V.1 0) 1 x) = V1) : (sW g ad xa V).set 0 (ad 0, .inr (13, (sWf ad xa V).set 3 (.int x))) = sW g ad xa V1 := by subst e; rfl
theorem sW_g4 {ad : Nat → Nat} {xa : Nat} {V : BC} : (sWf ad xa V)[4]? = some (.int (V.1 0 2)) := rfl
theorem sW_p4 {g : Nat → ClassId} {ad : Nat → Nat} {xa : Nat} {V : BC} {V1 : BC} {x : Int32} (e : bI V 0 (upd (V.1 0) 2 x) = V1) : (sW g ad xa V).set 0 (ad 0, .inr (13, (sWf ad xa V).set 4 (.int x))) = sW g ad xa V1 := by subst e; rfl
theorem sW_g5 {ad : Nat → Nat} {xa : Nat} {V : BC} : (sWf ad xa V)[5]? = some (.ref xa) := rfl
theorem sW_1 {g : Nat → ClassId} {ad : Nat → Nat} {xa : Nat} {V : BC} : (sW g ad xa V)[1]? = some (ad 1, .inl (g 0, 3, .inl (V.1 1))) := rfl
theorem sW_s1 {g : Nat → ClassId} {ad : Nat → Nat} {xa : Nat} {V : BC} {V1 : BC} {f : Nat → Int32} (e : bI V 1 f = V1) : (sW g ad xa V).set 1 (ad 1, .inl (g 0, 3, .inl f)) = sW g ad xa V1 := by subst e; rfl
theorem sW_2 {g : Nat → ClassId} {ad : Nat → Nat} {xa : Nat} {V : BC} : (sW g ad xa V)[2]? = some (ad 2, .inl (g 0, 3, .inl (V.1 2))) := rfl
theorem sW_s2 {g : Nat → ClassId} {ad : Nat → Nat} {xa : Nat} {V : BC} {V1 : BC} {f : Nat → Int32} (e : bI V 2 f = V1) : (sW g ad xa V).set 2 (ad 2, .inl (g 0, 3, .inl f)) = sW g ad xa V1 := by subst e; rfl
def rWf (ad : Nat → Nat) (tp vl : Nat) (V : BC) : List Value := [.ref tp, .int (V.1 0 0), .ref vl, .int (V.1 0 1), .int (V.1 0 2), va_rf (V.2.1 0 0), .int (V.1 0 3)]
def rW (g : Nat → ClassId) (ad : Nat → Nat) (tp vl : Nat) (V : BC) : va_W := [(ad 0, .inr (11, rWf ad tp vl V))]
theorem rW_0 {g : Nat → ClassId} {ad : Nat → Nat} {tp vl : Nat} {V : BC} : (rW g ad tp vl V)[0]? = some (ad 0, .inr (11, rWf ad tp vl V)) := rfl
theorem rW_l {ad : Nat → Nat} {tp vl : Nat} {V : BC} : (rWf ad tp vl V).length = 7 := rfl
theorem rW_g0 {ad : Nat → Nat} {tp vl : Nat} {V : BC} : (rWf ad tp vl V)[0]? = some (.ref tp) := rfl
theorem rW_g1 {ad : Nat → Nat} {tp vl : Nat} {V : BC} : (rWf ad tp vl V)[1]? = some (.int (V.1 0 0)) := rfl
theorem rW_p1 {g : Nat → ClassId} {ad : Nat → Nat} {tp vl : Nat} {V : BC} {V1 : BC} {x : Int32} (e : bI V 0 (upd (V.1 0) 0 x) = V1) : (rW g ad tp vl V).set 0 (ad 0, .inr (11, (rWf ad tp vl V).set 1 (.int x))) = rW g ad tp vl V1 := by subst e; rfl
theorem rW_g2 {ad : Nat → Nat} {tp vl : Nat} {V : BC} : (rWf ad tp vl V)[2]? = some (.ref vl) := rfl
theorem rW_g3 {ad : Nat → Nat} {tp vl : Nat} {V : BC} : (rWf ad tp vl V)[3]? = some (.int (V.1 0 1)) := rfl
theorem rW_p3 {g : Nat → ClassId} {ad : Nat → Nat} {tp vl : Nat} {V : BC} {V1 : BC} {x : Int32} (e : bI V 0 (upd (V.1 0) 1 x) = V1) : (rW g ad tp vl V).set 0 (ad 0, .inr (11, (rWf ad tp vl V).set 3 (.int x))) = rW g ad tp vl V1 := by subst e; rfl
theorem rW_g4 {ad : Nat → Nat} {tp vl : Nat} {V : BC} : (rWf ad tp vl V)[4]? = some (.int (V.1 0 2)) := rfl
theorem rW_p4 {g : Nat → ClassId} {ad : Nat → Nat} {tp vl : Nat} {V : BC} {V1 : BC} {x : Int32} (e : bI V 0 (upd (V.1 0) 2 x) = V1) : (rW g ad tp vl V).set 0 (ad 0, .inr (11, (rWf ad tp vl V).set 4 (.int x))) = rW g ad tp vl V1 := by subst e; rfl
theorem rW_g5 {ad : Nat → Nat} {tp vl : Nat} {V : BC} : (rWf ad tp vl V)[5]? = some (va_rf (V.2.1 0 0)) := rfl
theorem rW_p5 {g : Nat → ClassId} {ad : Nat → Nat} {tp vl : Nat} {V : BC} {V1 : BC} {x : Option Nat} (e : bR V 0 (va_up (V.2.1 0) 0 x) = V1) : (rW g ad tp vl V).set 0 (ad 0, .inr (11, (rWf ad tp vl V).set 5 (va_rf x))) = rW g ad tp vl V1 := by subst e; rfl
theorem rW_g6 {ad : Nat → Nat} {tp vl : Nat} {V : BC} : (rWf ad tp vl V)[6]? = some (.int (V.1 0 3)) := rfl
theorem rW_p6 {g : Nat → ClassId} {ad : Nat → Nat} {tp vl : Nat} {V : BC} {V1 : BC} {x : Int32} (e : bI V 0 (upd (V.1 0) 3 x) = V1) : (rW g ad tp vl V).set 0 (ad 0, .inr (11, (rWf ad tp vl V).set 6 (.int x))) = rW g ad tp vl V1 := by subst e; rfl
/-- a model that may be there -/
def oM (g : Nat → ClassId) (q : Option ((Nat → Nat) × BC)) : va_W := match q with | none => [] | some q => mW g q.1 none none q.2
/-- a valley that may be there -/
def oV (g : Nat → ClassId) (q : Option ((Nat → Nat) × BC)) : va_W := match q with | none => [] | some q => vW g q.1 q.2
/-- the goers: cells of six classes, that nobody changes -/
def gW (L : List Nat) (kd : Nat → Nat) (nu aa : Nat → Int32) : va_W := va_pl L (fun a => .inr (5 + kd a, [.int (nu a), .int (aa a)]))
