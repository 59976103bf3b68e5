/-! String.hashCode -/
def hsS (f : Nat → Int32) : Nat → Int32
  | 0 => 0
  | i + 1 => (31 : Int32) * hsS f i + (f i &&& 255)
theorem kJ7_signedHashCode {R : Room} {s : State} {args : Array Value} {own : String} {idx mc ms : Nat} {rm : Room} (hts : ∀ w ∈ lw_all, w.before args s = true) (hl : Cond.methodLink own idx yJ7_signedHashCode ∈ lw_all) (hrc : rm.cells = mc) (hrs : rm.slots = ms) (hR : rm.frames + 1 ≤ R.frames ∧ 8 + (6 + 11) + rm.locals ≤ R.locals) : CallB R s args own idx yJ7_signedHashCode cJ7_signedHashCode 6 (some .int) (ws_ yJ7_signedHashCode cJ7_signedHashCode 6 (some .int)) rm mc ms 4 ∧ (Cond.static yJ7_signedHashCode).before args s = true :=
  va_cwS 4 hts (lw_S hl q1157 q121 q1158) rfl hrc hrs (by decide +kernel) hR
set_option maxRecDepth 100000 in
theorem mtJ7_signed (l : Launch) (D : va_G) (k : Nat → ClassId) (Z : zZ) (hOK : zOK D zCl (zTys k) Z) (v n : Nat) (f : Nat → Int32) (hn : n < 2 ^ 31) : CtR l yJ7_signedHashCode cJ7_signedHashCode 6 (some .int) (rLs 0 0 0 0) Z D zCl [(v, .inl (k 2, n, .inl f))] [.int (nI 0), .ref v, .int (nI 0), .int (nI n)] (some (.int (hsS f n))) := by
  refine CtR.of (by decide) (Nat.le_of_ble_eq_true rfl) ?_
  intro p e9 s m args below meth c hE hP hz ls hl
  obtain ⟨hx, hb, hr, hml, hown, hts, hlocks, hname⟩ := hE
  have hown : s.vm.findClass RJ7 = some m.cls := hown
  have hK := hOK.1 _ _ _ hz
  have hN := hOK.2.1 _ _ _ hz
  have hl : lv_has ls 6 [(0, .int (nI 0)), (1, .ref v), (2, .int (nI 0)), (3, .int (nI n))] := hl
  refine lv_iload_n hx hb dJ7_signedHashCode_0 rfl (lv_at hl 2 rfl) ?_
  refine lv_iload_n hx hb dJ7_signedHashCode_1 rfl (lv_at hl 3 rfl) ?_
  refine lv_iadd hx hb dJ7_signedHashCode_2 ?_
  rw [nI_add, show (0 + n) = n from Nat.zero_add n]
  refine lv_istore (lv' := [(4, .int (nI n)), (0, .int (nI 0)), (1, .ref v), (2, .int (nI 0)), (3, .int (nI n))]) hx hb dJ7_signedHashCode_3 hl (by decide) rfl (fun ls hl => ?_)
  refine lv_iload_n hx hb dJ7_signedHashCode_5 rfl (lv_at hl 3 rfl) ?_
  refine lv_istore (lv' := [(5, .int (nI 0)), (4, .int (nI n)), (0, .int (nI 0)), (1, .ref v), (2, .int (nI 0)), (3, .int (nI n))]) hx hb dJ7_signedHashCode_6 hl (by decide) rfl (fun ls hl => ?_)
  have key : ∀ (j i : Nat), i + j = n → ∀ ls : Array Slot, lv_has ls 6 [(5, .int (nI i)), (0, .int (hsS f i)), (4, .int (nI n)), (1, .ref v), (2, .int (nI 0)), (3, .int (nI n))] → W p l e9 (rLs 0 0 0 0) s m args below meth c s.heap [] 0 0 (MQ below (QRr (some (.int (hsS f n)))) args s 0 0 (fun _ => False)) (F0 m 8 ls []) := by
    intro j
    induction j with
    | zero =>
      intro i hi ls hl
      obtain rfl : i = n := by omega
      refine lv_iload hx hb dJ7_signedHashCode_8 (lv_at hl 0 rfl) ?_
      refine lv_iload hx hb dJ7_signedHashCode_10 (lv_at hl 2 rfl) ?_
      refine lv_icmp_ge (tgt := 35) hx hb dJ7_signedHashCode_12 (by decide) (fun _ => ?_) (fun c1 => absurd (Int32.le_refl _) c1)
      refine lv_iload_n hx hb dJ7_signedHashCode_35 rfl (lv_at hl 1 rfl) ?_
      exact retR_i hx hb hr hlocks rfl dJ7_signedHashCode_36
    | succ j ih =>
      intro i hi ls hl
      refine lv_iload hx hb dJ7_signedHashCode_8 (lv_at hl 0 rfl) ?_
      refine lv_iload hx hb dJ7_signedHashCode_10 (lv_at hl 2 rfl) ?_
      refine lv_icmp_ge (tgt := 35) hx hb dJ7_signedHashCode_12 (by decide) (fun c1 => absurd c1 (nI_ge (by omega) hn)) (fun _ => ?_)
      refine lv_bipush (v := (31 : Int32)) hx hb dJ7_signedHashCode_15 (by decide) ?_
      refine lv_iload_n hx hb dJ7_signedHashCode_17 rfl (lv_at hl 1 rfl) ?_
      refine lv_imul hx hb dJ7_signedHashCode_18 ?_
      refine lv_aload_n hx hb dJ7_signedHashCode_19 rfl (lv_at hl 3 rfl) ?_
      refine lv_iload hx hb dJ7_signedHashCode_20 (lv_at hl 0 rfl) ?_
      refine va_bald hx hb hK hP 0 2 rfl rfl (vp_in_nI (show i < n by omega) hn) dJ7_signedHashCode_22 ?_
      rw [nI_clamp (show i < 2 ^ 31 by omega)]
      refine lv_sipush (v := (255 : Int32)) hx hb dJ7_signedHashCode_23 (by decide) ?_
      refine lv_iand hx hb dJ7_signedHashCode_26 ?_
      refine lv_iadd hx hb dJ7_signedHashCode_27 ?_
      refine lv_istore_n (lv' := [(0, .int (hsS f (i + 1))), (5, .int (nI i)), (4, .int (nI n)), (1, .ref v), (2, .int (nI 0)), (3, .int (nI n))]) hx hb dJ7_signedHashCode_28 rfl hl (by decide) rfl (fun ls hl => ?_)
      refine lv_iinc (v := nI i + 1) (lv' := [(5, .int (nI i + 1)), (0, .int (hsS f (i + 1))), (4, .int (nI n)), (1, .ref v), (2, .int (nI 0)), (3, .int (nI n))]) hx hb dJ7_signedHashCode_29 hl (k := 1) rfl rfl (by decide) rfl (fun ls hl => ?_)
      rw [← nI_succ] at hl
      refine lv_goto (tgt := 8) hx hb dJ7_signedHashCode_32 (by decide) ?_
      exact ih (i + 1) (by omega) ls hl
  exact key n 0 (by omega) ls (lv_sub hl [0, 2, 1, 3, 4, 5] rfl)
theorem kJ7_vectorizedHashCode {R : Room} {s : State} {args : Array Value} {own : String} {idx mc ms : Nat} {rm : Room} (hts : ∀ w ∈ lw_all, w.before args s = true) (hl : Cond.methodLink own idx yJ7_vectorizedHashCode ∈ lw_all) (hrc : rm.cells = mc) (hrs : rm.slots = ms) (hR : rm.frames + 1 ≤ R.frames ∧ 8 + (5 + 11) + rm.locals ≤ R.locals) : CallB R s args own idx yJ7_vectorizedHashCode cJ7_vectorizedHashCode 5 (some .int) (ws_ yJ7_vectorizedHashCode cJ7_vectorizedHashCode 5 (some .int)) rm mc ms 5 ∧ (Cond.static yJ7_vectorizedHashCode).before args s = true :=
  va_cwS 5 hts (lw_S hl q1153 q121 q1154) rfl hrc hrs (by decide +kernel) hR
set_option maxRecDepth 100000 in
theorem mtJ7_vec (l : Launch) (D : va_G) (k : Nat → ClassId) (Z : zZ) (hOK : zOK D zCl (zTys k) Z) (v n : Nat) (f : Nat → Int32) (hn : n < 2 ^ 31) : CtR l yJ7_vectorizedHashCode cJ7_vectorizedHashCode 5 (some .int) (rLs 1 0 0 40) Z D zCl [(v, .inl (k 2, n, .inl f))] [.ref v, .int (nI 0), .int (nI n), .int (nI 0), .int (nI 4)] (some (.int (hsS f n))) := by
  refine CtR.of (by decide) (Nat.le_of_ble_eq_true rfl) ?_
  intro p e9 s m args below meth c hE hP hz ls hl
  obtain ⟨hx, hb, hr, hml, hown, hts, hlocks, hname⟩ := hE
  have hown : s.vm.findClass RJ7 = some m.cls := hown
  have hK := hOK.1 _ _ _ hz
  have hN := hOK.2.1 _ _ _ hz
  have hl : lv_has ls 5 [(0, .ref v), (1, .int (nI 0)), (2, .int (nI n)), (3, .int (nI 0)), (4, .int (nI 4))] := hl
  refine lv_iload hx hb dJ7_vectorizedHashCode_0 (lv_at hl 4 rfl) ?_
  refine lv_tableIn (off := 42) (tgt := 44) hx hb dJ7_vectorizedHashCode_2 (by decide) (by decide) (by rfl) (by decide) ?_
  refine lv_iload_n hx hb dJ7_vectorizedHashCode_44 rfl (lv_at hl 3 rfl) ?_
  refine lv_aload_n hx hb dJ7_vectorizedHashCode_45 rfl (lv_at hl 0 rfl) ?_
  have hnm : s.vm.findClass "[B" = some (k 2) := (hK.2 2 _ rfl).2
  refine va_castA hx hb hown (hts _ q1155) hP 0 rfl hnm dJ7_vectorizedHashCode_46 ?_
  refine lv_iload_n hx hb dJ7_vectorizedHashCode_49 rfl (lv_at hl 1 rfl) ?_
  refine lv_iload_n hx hb dJ7_vectorizedHashCode_50 rfl (lv_at hl 2 rfl) ?_
  refine cRS (As := [.int (nI 0), .ref v, .int (nI 0), .int (nI n)]) ⟨hx, hb, hml, hown, hts⟩ hOK hz va_S.rf hP (mtJ7_signed l D k Z hOK v n f hn) (kJ7_signedHashCode hts q1156 rfl rfl ⟨Nat.le_of_ble_eq_true rfl, Nat.le_of_ble_eq_true rfl⟩) rfl hl.1 rfl (lv_room (Nat.le_of_ble_eq_true rfl)) ⟨(Nat.le_of_ble_eq_true rfl), (Nat.le_of_ble_eq_true rfl)⟩ dJ7_vectorizedHashCode_51 ?_
  refine lv_goto (tgt := 157) hx hb dJ7_vectorizedHashCode_54 (by decide) ?_
  exact retR_i hx hb hr hlocks rfl dJ7_vectorizedHashCode_157
theorem kJ10_hashCode {R : Room} {s : State} {args : Array Value} {own : String} {idx mc ms : Nat} {rm : Room} (hts : ∀ w ∈ lw_all, w.before args s = true) (hl : Cond.methodLink own idx yJ10_hashCode ∈ lw_all) (hrc : rm.cells = mc) (hrs : rm.slots = ms) (hR : rm.frames + 1 ≤ R.frames ∧ 8 + (1 + 11) + rm.locals ≤ R.locals) : CallB R s args own idx yJ10_hashCode cJ10_hashCode 1 (some .int) (ws_ yJ10_hashCode cJ10_hashCode 1 (some .int)) rm mc ms 1 ∧ (Cond.static yJ10_hashCode).before args s = true :=
  va_cwS 1 hts (lw_S hl q1150 q124 q1151) rfl hrc hrs (by decide +kernel) hR
theorem hs1 {f : Nat → Int32} : hsS f 1 = f 0 &&& 255 := by
  show (31 : Int32) * 0 + (f 0 &&& 255) = _
  rw [Int32.mul_zero, Int32.zero_add]
theorem hsLk {n : Nat} (h : 2 ≤ n) : Op.lookupswitch.offset [((0 : Int), (26 : Int)), (1, 30)] 40 (n : Int) = 40 := by
  rw [Op.lookupswitch.offset_cons, if_neg (by omega), Op.lookupswitch.offset_cons, if_neg (by omega)]
  rfl
set_option maxRecDepth 100000 in
theorem mtJ10_hash (l : Launch) (D : va_G) (k : Nat → ClassId) (Z : zZ) (hOK : zOK D zCl (zTys k) Z) (v n : Nat) (f : Nat → Int32) (hn : n < 2 ^ 31) : CtR l yJ10_hashCode cJ10_hashCode 1 (some .int) (rLs 2 0 0 80) Z D zCl [(v, .inl (k 2, n, .inl f))] [.ref v] (some (.int (hsS f n))) := by
  refine CtR.of (by decide) (Nat.le_of_ble_eq_true rfl) ?_
  intro p e9 s m args below meth c hE hP hz ls hl
  obtain ⟨hx, hb, hr, hml, hown, hts, hlocks, hname⟩ := hE
  have hown : s.vm.findClass RJ10 = some m.cls := hown
  have hK := hOK.1 _ _ _ hz
  have hN := hOK.2.1 _ _ _ hz
  have hl : lv_has ls 1 [(0, .ref v)] := hl
  refine lv_aload_n hx hb dJ10_hashCode_0 rfl (lv_at hl 0 rfl) ?_
  refine va_alen (v := nI n) hx hb hK hP 0 2 rfl rfl rfl dJ10_hashCode_1 ?_
  rcases (show n = 0 ∨ n = 1 ∨ 2 ≤ n by omega) with rfl | rfl | h2
  · refine lv_lookup (x := nI 0) (off := 26) (tgt := 28) hx hb dJ10_hashCode_2 (by decide) (by decide) (by decide) ?_
    refine lv_iconst (v := (0 : Int32)) hx hb dJ10_hashCode_28 (by decide) ?_
    refine lv_goto (tgt := 51) hx hb dJ10_hashCode_29 (by decide) ?_
    exact retR_i hx hb hr hlocks rfl dJ10_hashCode_51
  · refine lv_lookup (x := nI 1) (off := 30) (tgt := 32) hx hb dJ10_hashCode_2 (by decide) (by decide) (by decide) ?_
    refine lv_aload_n hx hb dJ10_hashCode_32 rfl (lv_at hl 0 rfl) ?_
    refine lv_iconst (v := nI 0) hx hb dJ10_hashCode_33 (by decide) ?_
    refine va_bald hx hb hK hP 0 2 rfl rfl (vp_in_nI (show 0 < 1 by omega) (by omega)) dJ10_hashCode_34 ?_
    refine lv_sipush (v := (255 : Int32)) hx hb dJ10_hashCode_35 (by decide) ?_
    refine lv_iand hx hb dJ10_hashCode_38 ?_
    refine lv_goto (tgt := 51) hx hb dJ10_hashCode_39 (by decide) ?_
    exact retR_i hx hb hr hlocks (by rw [hs1]; rfl) dJ10_hashCode_51
  · refine lv_lookup (x := nI n) (off := 40) (tgt := 42) hx hb dJ10_hashCode_2 (by decide) (by rw [nI_toInt hn]; exact hsLk h2) (by decide) ?_
    refine lv_aload_n hx hb dJ10_hashCode_42 rfl (lv_at hl 0 rfl) ?_
    refine lv_iconst (v := nI 0) hx hb dJ10_hashCode_43 (by decide) ?_
    refine lv_aload_n hx hb dJ10_hashCode_44 rfl (lv_at hl 0 rfl) ?_
    refine va_alen (v := nI n) hx hb hK hP 0 2 rfl rfl rfl dJ10_hashCode_45 ?_
    refine lv_iconst (v := nI 0) hx hb dJ10_hashCode_46 (by decide) ?_
    refine lv_iconst (v := nI 4) hx hb dJ10_hashCode_47 (by decide) ?_
    refine cRS (As := [.ref v, .int (nI 0), .int (nI n), .int (nI 0), .int (nI 4)]) ⟨hx, hb, hml, hown, hts⟩ hOK hz va_S.rf hP (mtJ7_vec l D k Z hOK v n f hn) (kJ7_vectorizedHashCode hts q1152 rfl rfl ⟨Nat.le_of_ble_eq_true rfl, Nat.le_of_ble_eq_true rfl⟩) rfl hl.1 rfl (lv_room (Nat.le_of_ble_eq_true rfl)) ⟨(Nat.le_of_ble_eq_true rfl), (Nat.le_of_ble_eq_true rfl)⟩ dJ10_hashCode_48 ?_
    exact retR_i hx hb hr hlocks rfl dJ10_hashCode_51
theorem kJ5_hashCode {R : Room} {s : State} {args : Array Value} {own : String} {idx mc ms : Nat} {rm : Room} (hts : ∀ w ∈ lw_all, w.before args s = true) (hl : Cond.methodLink own idx yJ5_hashCode ∈ lw_all) (hrc : rm.cells = mc) (hrs : rm.slots = ms) (hR : rm.frames + 1 ≤ R.frames ∧ 8 + (2 + 11) + rm.locals ≤ R.locals) : CallW R s args own RJ5 idx yJ5_hashCode cJ5_hashCode 2 (some .int) (ws_ yJ5_hashCode cJ5_hashCode 2 (some .int)) rm mc ms 0 :=
  cwV 0 hts (lw_V hl q1142 q1143 q119 q1144) rfl hrc hrs (by decide +kernel) hR
theorem mtJ5_isLatin1C (l : Launch) (D : va_G) (k : Nat → ClassId) (Z : zZ) (hOK : zOK D zCl (zTys k) Z) (hCs : zCs Z) (q v n : Nat) (h : Int32) (z : Bool) (f : Nat → Int32) : CtR l yJ5_isLatin1 cJ5_isLatin1 1 (some .boolean) (rLs 0 0 0 0) Z D zCl (strC k q v n h z f) [.ref q] (some (.int (bz true))) := by
  refine CtR.of (by decide) (Nat.le_of_ble_eq_true rfl) ?_
  intro p e9 s m args below meth c hE hP hz ls hl
  obtain ⟨hx, hb, hr, hml, hown, hts, hlocks, hname⟩ := hE
  have hown : s.vm.findClass RJ5 = some m.cls := hown
  have hK := hOK.1 _ _ _ hz
  have hl : lv_has ls 1 [(0, .ref q)] := hl
  refine va_gets hx hb (hCs _ _ _ hz) va_S.rf hown (hts _ q1045) (fun _ h9 => h9) dJ5_isLatin1_0 ?_
  refine lv_if_eq (tgt := 17) hx hb dJ5_isLatin1_3 (by decide) (fun c_1 => absurd c_1 (by decide)) (fun _ => ?_)
  refine lv_aload_n hx hb dJ5_isLatin1_6 rfl (lv_at hl 0 rfl) ?_
  refine va_get (ci := 17) (v := .int 0) (C := RJ5) (T := TJ5) (N := 4) hx hb hts in_J5 hown hK hP 0 rfl rfl 1 (by decide) (hts _ q1101) (fun _ h9 => h9) rfl dJ5_isLatin1_7 ?_
  refine lv_if_ne (tgt := 17) hx hb dJ5_isLatin1_10 (by decide) (fun c_1 => absurd rfl c_1) (fun _ => ?_)
  refine lv_iconst (v := bz true) hx hb dJ5_isLatin1_13 (by decide) ?_
  refine lv_goto (tgt := 18) hx hb dJ5_isLatin1_14 (by decide) ?_
  exact retR_z hx hb hr hlocks rfl dJ5_isLatin1_18
set_option maxRecDepth 100000 in
theorem mtJ5_hash (l : Launch) (D : va_G) (k : Nat → ClassId) (Z : zZ) (hOK : zOK D zCl (zTys k) Z) (hCs : zCs Z) (q v n : Nat) (f : Nat → Int32) (hn : n < 2 ^ 31) : CtW l yJ5_hashCode cJ5_hashCode 2 (some .int) (rLs 3 0 0 120) Z D zCl (strC k q v n 0 false f) [.ref q] (fun r' w' => ∃ (h : Int32) (z : Bool), r' = some (.int (hsS f n)) ∧ w' = strC k q v n h z f) 0 0 := by
  refine CtW.of (by decide) (Nat.le_of_ble_eq_true rfl) ?_
  intro p e9 s m args below meth c A hE hA hP hD hS hz ls hl
  obtain ⟨hx, hb, hr, hml, hown, hts, hlocks, hname⟩ := hE
  have hown : s.vm.findClass RJ5 = some m.cls := hown
  have hK := hOK.1 _ _ _ hz
  have hN := hOK.2.1 _ _ _ hz
  have hl : lv_has ls 2 [(0, .ref q)] := hl
  refine lv_aload_n hx hb dJ5_hashCode_0 rfl (lv_at hl 0 rfl) ?_
  refine va_get (ci := 17) (v := .int (0 : Int32)) (C := RJ5) (T := TJ5) (N := 4) hx hb hts in_J5 hown hK hP 0 rfl rfl 2 (by decide) (hts _ q1102) (fun _ h9 => h9) rfl dJ5_hashCode_1 ?_
  refine lv_istore_n (lv' := [(1, .int (0 : Int32)), (0, .ref q)]) hx hb dJ5_hashCode_4 rfl hl (by decide) rfl (fun ls hl => ?_)
  refine lv_iload_n hx hb dJ5_hashCode_5 rfl (lv_at hl 0 rfl) ?_
  refine lv_if_ne (tgt := 58) hx hb dJ5_hashCode_6 (by decide) (fun c1 => absurd rfl c1) (fun _ => ?_)
  refine lv_aload_n hx hb dJ5_hashCode_9 rfl (lv_at hl 1 rfl) ?_
  refine va_get (ci := 17) (v := .int (bz false)) (C := RJ5) (T := TJ5) (N := 4) hx hb hts in_J5 hown hK hP 0 rfl rfl 3 (by decide) (hts _ q1103) (fun _ h9 => h9) rfl dJ5_hashCode_10 ?_
  refine lv_if_ne (tgt := 58) hx hb dJ5_hashCode_13 (by decide) (fun c1 => absurd rfl c1) (fun _ => ?_)
  refine lv_aload_n hx hb dJ5_hashCode_16 rfl (lv_at hl 1 rfl) ?_
  refine cRV (As := []) (ci := 17) ⟨hx, hb, hml, hown, hts⟩ hOK hz hS hP (mtJ5_isLatin1C l D k Z hOK hCs q v n 0 false f) (kJ5_isLatin1 hts q1145 rfl rfl ⟨Nat.le_of_ble_eq_true rfl, Nat.le_of_ble_eq_true rfl⟩) 0 rfl rfl rfl hl.1 rfl (lv_room (Nat.le_of_ble_eq_true rfl)) ⟨(Nat.le_of_ble_eq_true rfl), (Nat.le_of_ble_eq_true rfl)⟩ dJ5_hashCode_17 ?_
  refine lv_if_eq (tgt := 33) hx hb dJ5_hashCode_20 (by decide) (fun c1 => absurd c1 (by decide)) (fun _ => ?_)
  refine lv_aload_n hx hb dJ5_hashCode_23 rfl (lv_at hl 1 rfl) ?_
  refine va_get (ci := 17) (v := .ref v) (C := RJ5) (T := TJ5) (N := 4) hx hb hts in_J5 hown hK hP 0 rfl rfl 0 (by decide) (hts _ q1100) (fun _ h9 => h9) rfl dJ5_hashCode_24 ?_
  refine cRS (ws := [(v, .inl (k 2, n, .inl f))]) (As := [.ref v]) ⟨hx, hb, hml, hown, hts⟩ hOK hz hS (hP.sub [1] rfl) (mtJ10_hash l D k Z hOK v n f hn) (kJ10_hashCode hts q1149 rfl rfl ⟨Nat.le_of_ble_eq_true rfl, Nat.le_of_ble_eq_true rfl⟩) rfl hl.1 rfl (lv_room (Nat.le_of_ble_eq_true rfl)) ⟨(Nat.le_of_ble_eq_true rfl), (Nat.le_of_ble_eq_true rfl)⟩ dJ5_hashCode_27 ?_
  refine lv_goto (tgt := 40) hx hb dJ5_hashCode_30 (by decide) ?_
  refine lv_istore_n (lv' := [(1, .int (hsS f n)), (0, .ref q)]) hx hb dJ5_hashCode_40 rfl hl (by decide) rfl (fun ls hl => ?_)
  refine lv_iload_n hx hb dJ5_hashCode_41 rfl (lv_at hl 0 rfl) ?_
  refine lv_if_ne (tgt := 53) hx hb dJ5_hashCode_42 (by decide) (fun c1 => ?_) (fun c1 => ?_)
  · refine lv_aload_n hx hb dJ5_hashCode_53 rfl (lv_at hl 1 rfl) ?_
    refine lv_iload_n hx hb dJ5_hashCode_54 rfl (lv_at hl 0 rfl) ?_
    refine va_put (ci := 17) (v := .int (hsS f n)) (ty := tyJ5 2) (C := RJ5) (T := TJ5) (N := 4) hx hb hts in_J5 tyJ5 tyJ5_ok nmJ5 hown hK hP hD hS 0 rfl rfl 2 (by decide) (hts _ q1102) (fun _ h9 => h9) rfl (tyJ5_ok 2 (by decide)) rfl rfl (Nat.le_of_ble_eq_true rfl) dJ5_hashCode_55 (fun H locs hP hD hS => ?_)
    have hP : va_P D zCl (strC k q v n (hsS f n) false f) _ := hP
    have hD : va_D A (strC k q v n (hsS f n) false f) := hD
    refine lv_iload_n hx hb dJ5_hashCode_58 rfl (lv_at hl 0 rfl) ?_
    exact retW_i hx hb hr hlocks hP hD hS ⟨_, _, rfl, rfl⟩ dJ5_hashCode_59
  · refine lv_aload_n hx hb dJ5_hashCode_45 rfl (lv_at hl 1 rfl) ?_
    refine lv_iconst (v := bz true) hx hb dJ5_hashCode_46 (by decide) ?_
    refine va_put (ci := 17) (v := .int (bz true)) (ty := tyJ5 3) (C := RJ5) (T := TJ5) (N := 4) hx hb hts in_J5 tyJ5 tyJ5_ok nmJ5 hown hK hP hD hS 0 rfl rfl 3 (by decide) (hts _ q1103) (fun _ h9 => h9) rfl (tyJ5_ok 3 (by decide)) (bz_nar _) (bz_fit _) (Nat.le_of_ble_eq_true rfl) dJ5_hashCode_47 (fun H locs hP hD hS => ?_)
    have hP : va_P D zCl (strC k q v n 0 true f) _ := hP
    have hD : va_D A (strC k q v n 0 true f) := hD
    refine lv_goto (tgt := 58) hx hb dJ5_hashCode_50 (by decide) ?_
    refine lv_iload_n hx hb dJ5_hashCode_58 rfl (lv_at hl 0 rfl) ?_
    exact retW_i hx hb hr hlocks hP hD hS ⟨_, _, rfl, rfl⟩ dJ5_hashCode_59
