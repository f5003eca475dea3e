section MC
variable {p : Program} {l : Launch} {e : Env} {R : Room} {s : State} {m : MethodId} {args : Array Value} {below : List Frame} {meth : Method} {c : Code} {H : Heap} {locs : List Loc} {cells slots : Nat} {Q : State → Prop}
variable {cc : ByteArray} {pc nL : Nat} {ls : Array Slot} {rest : List Value} {D : va_G} {ac : Nat → ClassId} {A : Nat → Prop} {κ : Nat → Nat} {a : Nat} {O : gO} {L : List (Nat × gU)}
theorem v_cm (S : CallFix p m c cc nL s args lw_all RX1) (hK : KZ D ac A κ s) (hM : PS D ac A s.heap O L H locs) {kd : Nat} {mv : Nat → Int32} (hO : oups O L a = some (mvU kd mv)) (hk1 : 1 ≤ kd) (hk5 : kd ≤ 5) (hdg : decode cc pc = .ok (.checkcast 67, 3))
    (kk : W p l e R s m args below meth c H locs cells slots Q (F0 m (pc + 3) ls (.ref a :: rest))) : W p l e R s m args below meth c H locs cells slots Q (F0 m pc ls (.ref a :: rest)) := by
  rcases (show kd = 1 ∨ kd = 2 ∨ kd = 3 ∨ kd = 4 ∨ kd = 5 by omega) with rfl | rfl | rfl | rfl | rfl
  · exact va_castY S.1 S.2.1 S.2.2.2.1 (S.2.2.2.2 _ q917) (hK.1.2.1 _ q1668 rfl) (OS.recv hK hM.1 hO (q := (RX9, TX9, 4)) rfl) hdg kk
  · exact va_castY S.1 S.2.1 S.2.2.2.1 (S.2.2.2.2 _ q917) (hK.1.2.1 _ q1667 rfl) (OS.recv hK hM.1 hO (q := (RX10, TX10, 4)) rfl) hdg kk
  · exact va_castY S.1 S.2.1 S.2.2.2.1 (S.2.2.2.2 _ q917) (hK.1.2.1 _ q1669 rfl) (OS.recv hK hM.1 hO (q := (RX11, TX11, 4)) rfl) hdg kk
  · exact va_castY S.1 S.2.1 S.2.2.2.1 (S.2.2.2.2 _ q917) (hK.1.2.1 _ q1671 rfl) (OS.recv hK hM.1 hO (q := (RX12, TX12, 4)) rfl) hdg kk
  · exact va_castY S.1 S.2.1 S.2.2.2.1 (S.2.2.2.2 _ q917) (hK.1.2.1 _ q1670 rfl) (OS.recv hK hM.1 hO (q := (RX13, TX13, 4)) rfl) hdg kk
theorem v_cn (S : CallFix p m c cc nL s args lw_all RX0) (hK : KZ D ac A κ s) (hM : PS D ac A s.heap O L H locs) {kd : Nat} {mv : Nat → Int32} (hO : oups O L a = some (mvU kd mv)) (hk1 : 1 ≤ kd) (hk5 : kd ≤ 5) (hdg : decode cc pc = .ok (.checkcast 295, 3))
    (kk : W p l e R s m args below meth c H locs cells slots Q (F0 m (pc + 3) ls (.ref a :: rest))) : W p l e R s m args below meth c H locs cells slots Q (F0 m pc ls (.ref a :: rest)) := by
  rcases (show kd = 1 ∨ kd = 2 ∨ kd = 3 ∨ kd = 4 ∨ kd = 5 by omega) with rfl | rfl | rfl | rfl | rfl
  · exact va_castY S.1 S.2.1 S.2.2.2.1 (S.2.2.2.2 _ q1117) (hK.1.2.1 _ q1668 rfl) (OS.recv hK hM.1 hO (q := (RX9, TX9, 4)) rfl) hdg kk
  · exact va_castY S.1 S.2.1 S.2.2.2.1 (S.2.2.2.2 _ q1117) (hK.1.2.1 _ q1667 rfl) (OS.recv hK hM.1 hO (q := (RX10, TX10, 4)) rfl) hdg kk
  · exact va_castY S.1 S.2.1 S.2.2.2.1 (S.2.2.2.2 _ q1117) (hK.1.2.1 _ q1669 rfl) (OS.recv hK hM.1 hO (q := (RX11, TX11, 4)) rfl) hdg kk
  · exact va_castY S.1 S.2.1 S.2.2.2.1 (S.2.2.2.2 _ q1117) (hK.1.2.1 _ q1671 rfl) (OS.recv hK hM.1 hO (q := (RX12, TX12, 4)) rfl) hdg kk
  · exact va_castY S.1 S.2.1 S.2.2.2.1 (S.2.2.2.2 _ q1117) (hK.1.2.1 _ q1670 rfl) (OS.recv hK hM.1 hO (q := (RX13, TX13, 4)) rfl) hdg kk
end MC
