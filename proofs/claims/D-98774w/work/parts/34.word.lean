/-! Reader.word -/
noncomputable def fX3_wL : Nat → Rd → Option Rd
  | 0, _ => none
  | n + 1, srd => mob (fX3_byteAt srd (rd_at_ srd)) fun r => mob (fX1_in r (97 : Int32) (122 : Int32)) fun b => if b = true then fX3_wL n (rd_s_at_ srd (rd_at_ srd + 1)) else some srd
noncomputable def fX3_word (srd : Rd) : Option Rd := mob (fX3_blanks srd) fun s1 => fX3_wL mFU s1
/-- what is known of a word that was passed: its begin, its end, its letters -/
def wdP (srd : Rd) (b a : Nat) : Prop := rd_begin srd = nI b ∧ rd_at_ srd = nI a ∧ b ≤ a ∧ a ≤ 400 ∧ ∀ j, b ≤ j → j < a → ∃ c, c < 256 ∧ rd_tape srd j = nI c ∧ nI c = sb_b c
def cpS : Nat → Nat
  | 0 => 16
  | i + 1 => sbGrow i (cpS i)
def mcS : Nat → Nat
  | 0 => 0
  | i + 1 => mcS i + mbSb i (cpS i)
def msS : Nat → Nat
  | 0 => 0
  | i + 1 => msS i + msSb i (cpS i)
theorem cpS_v : ∀ i, i ≤ 400 → (cpS i = if i ≤ 16 then 16 else if i ≤ 34 then 34 else if i ≤ 70 then 70 else if i ≤ 142 then 142 else if i ≤ 286 then 286 else 574) ∧ (mcS i = if i ≤ 16 then 0 else if i ≤ 34 then 1 else if i ≤ 70 then 2 else if i ≤ 142 then 3 else if i ≤ 286 then 4 else 5) ∧ msS i = if i ≤ 16 then 0 else if i ≤ 34 then 34 else if i ≤ 70 then 104 else if i ≤ 142 then 246 else if i ≤ 286 then 532 else 1106
  | 0, _ => ⟨rfl, rfl, rfl⟩
  | i + 1, h => by
    obtain ⟨h1, h2, h3⟩ := cpS_v i (by omega)
    refine ⟨?_, ?_, ?_⟩
    · show sbGrow i (cpS i) = _
      rw [h1]; unfold sbGrow; repeat' split
      all_goals omega
    · show mcS i + mbSb i (cpS i) = _
      rw [h1, h2]; unfold mbSb; repeat' split
      all_goals omega
    · show msS i + msSb i (cpS i) = _
      rw [h1, h3]; unfold msSb; repeat' split
      all_goals omega
theorem cpS_b {i : Nat} (h : i ≤ 400) : i ≤ cpS i ∧ cpS i < 600 ∧ mcS i ≤ 5 ∧ msS i ≤ 1106 := by
  obtain ⟨h1, h2, h3⟩ := cpS_v i h
  rw [h1, h2, h3]
  refine ⟨?_, ?_, ?_, ?_⟩ <;> repeat' split
  all_goals omega
def rX3_word : Room := rLs 6 9 1600 300
theorem kX3_word {R : Room} {s : State} {args : Array Value} {own : String} {idx mc ms : Nat} {rm : Room} (hts : ∀ w ∈ lw_all, w.before args s = true) (hl : Cond.methodLink own idx yX3_word ∈ lw_all) (hrc : rm.cells = mc) (hrs : rm.slots = ms) (hR : rm.frames + 1 ≤ R.frames ∧ 8 + (3 + 11) + rm.locals ≤ R.locals) : CallW R s args own RX3 idx yX3_word cX3_word 3 (some (.object "java/lang/String")) (ws_ yX3_word cX3_word 3 (some (.object "java/lang/String"))) rm mc ms 0 :=
  cwV 0 hts (lw_V hl q784 q785 q109 q786) rfl hrc hrs (by decide +kernel) hR
set_option maxRecDepth 100000 in
theorem mtX3_word (l : Launch) (D : va_G) (k : Nat → ClassId) (ard : Nat → Nat) (Z : zZ) (hOK : zOK D zCl (zTys k) Z) (hCs : zCs Z) (hPv : zPv Z) (srd ord : Rd) (hrun : fX3_word srd = some ord) (b a : Nat) (hwd : wdP ord b a) : CtW l yX3_word cX3_word 3 (some (.object "java/lang/String")) rX3_word Z D zCl (cR k ard srd) [.ref (ard 0)] (fun r' w' => ∃ (q v1 : Nat) (f1 : Nat → Int32), r' = some (.ref q) ∧ sb_Fit f1 ∧ (∀ j, j < a - b → f1 j = rd_tape ord (b + j)) ∧ w' = (cR k ard ord ++ strC k q v1 (a - b) 0 false f1)) 9 1600 := by
  refine CtW.of (by decide) (Nat.le_of_ble_eq_true rfl) ?_
  intro p e9 s m args below meth c A hE hA hP hD hS hz ls hl
  obtain ⟨hx, hb, hr, hml, hown, hts, hlocks, hname⟩ := hE
  have hown : s.vm.findClass RX3 = some m.cls := hown
  have hK := hOK.1 _ _ _ hz
  have hN := hOK.2.1 _ _ _ hz
  have hl : lv_has ls 3 [(0, .ref (ard 0))] := hl
  have tail : ∀ (H : Heap) (locs : List Loc), va_P D zCl (cR k ard ord) H → va_D A (cR k ard ord) → va_S A s.heap H locs → ∀ ls : Array Slot, lv_has ls 3 [(0, .ref (ard 0))] → W p l e9 rX3_word s m args below meth c H locs 0 0 (MQ below (QWr (fun r' w' => ∃ (q v1 : Nat) (f1 : Nat → Int32), r' = some (.ref q) ∧ sb_Fit f1 ∧ (∀ j, j < a - b → f1 j = rd_tape ord (b + j)) ∧ w' = (cR k ard ord ++ strC k q v1 (a - b) 0 false f1)) D zCl A) args s 9 1600 A) (F0 m 35 ls []) := by
    intro H locs hP hD hS ls hl
    obtain ⟨hw1, hw2, hw3, hw4, hw5⟩ := hwd
    refine va_new (ci := 16) (fs := [.null, .int 0, .int 0, .int 0]) (C := RJ4) (T := TJ4) (N := 4) hx hb hts in_J4 tyJ4 tyJ4_ok hown (hts _ q788) (hts _ q789) (hts _ q118) hK hP hD hS hA rfl (zdef 4 tyJ4) (Nat.le_of_ble_eq_true rfl) (Nat.le_of_ble_eq_true rfl) dX3_word_35 (fun q H hP hD hS => ?_)
    refine lv_dup hx hb dX3_word_38 rfl ?_
    have hP : va_P D zCl ((cR k ard ord) ++ (sb0 q ++ [])) _ := hP
    have hD : va_D A ((cR k ard ord) ++ (sb0 q ++ [])) := hD
    refine cWI (cR k ard ord) (sb0 q) [] (As := []) ⟨hx, hb, hml, hown, hts⟩ hOK hz hS hA hP hD (mtJ4_init l D k Z hOK hCs q) (kJ4_init hts q790 rfl rfl ⟨Nat.le_of_ble_eq_true rfl, Nat.le_of_ble_eq_true rfl⟩) rfl hl.1 rfl (lv_room (Nat.le_of_ble_eq_true rfl)) ⟨(Nat.le_of_ble_eq_true rfl), (Nat.le_of_ble_eq_true rfl)⟩ dX3_word_39 (fun r_ w_ H locs hq hP hD hS => ?_)
    obtain ⟨v, rfl, rfl⟩ := hq
    have hP : va_P D zCl ((cR k ard ord) ++ (sbC k q v (cpS 0) 0 (fun _ => 0))) _ := hP
    have hD : va_D A ((cR k ard ord) ++ (sbC k q v (cpS 0) 0 (fun _ => 0))) := hD
    refine lv_astore_n (lv' := [(1, .ref q), (0, .ref (ard 0))]) hx hb dX3_word_42 rfl hl (by decide) rfl (fun ls hl => ?_)
    refine lv_aload_n hx hb dX3_word_43 rfl (lv_at hl 1 rfl) ?_
    refine va_get (ci := 3) (v := .int (rd_begin ord)) (C := RX3) (T := TX3) (N := 7) hx hb hts in_X3 hown hK hP 0 rfl rfl 4 (by decide) (hts _ q266) (fun _ h9 => h9) rfl dX3_word_44 ?_
    rw [hw1]
    refine lv_istore_n (lv' := [(2, .int (nI b)), (1, .ref q), (0, .ref (ard 0))]) hx hb dX3_word_47 rfl hl (by decide) rfl (fun ls hl => ?_)
    have key : ∀ (j i : Nat), i + j = a - b → ∀ (v : Nat) (f : Nat → Int32), sb_Fit f → (∀ x, x < i → f x = rd_tape ord (b + x)) → ∀ (H : Heap) (locs : List Loc), va_P D zCl ((cR k ard ord) ++ (sbC k q v (cpS i) i f)) H → va_D A ((cR k ard ord) ++ (sbC k q v (cpS i) i f)) → va_S A s.heap H locs → ∀ ls : Array Slot, lv_has ls 3 [(2, .int (nI (b + i))), (1, .ref q), (0, .ref (ard 0))] → W p l e9 rX3_word s m args below meth c H locs (2 + mcS i) (20 + msS i) (MQ below (QWr (fun r' w' => ∃ (q v1 : Nat) (f1 : Nat → Int32), r' = some (.ref q) ∧ sb_Fit f1 ∧ (∀ j, j < a - b → f1 j = rd_tape ord (b + j)) ∧ w' = (cR k ard ord ++ strC k q v1 (a - b) 0 false f1)) D zCl A) args s 9 1600 A) (F0 m 48 ls []) := by
      intro j
      induction j with
      | zero =>
        intro i hi v f hF hag H locs hP hD hS ls hl
        have hcb := cpS_b (i := i) (by omega)
        obtain rfl : i = a - b := by omega
        refine lv_iload_n hx hb dX3_word_48 rfl (lv_at hl 0 rfl) ?_
        refine lv_aload_n hx hb dX3_word_49 rfl (lv_at hl 2 rfl) ?_
        refine va_get (ci := 3) (v := .int (rd_at_ ord)) (C := RX3) (T := TX3) (N := 7) hx hb hts in_X3 hown hK hP 0 rfl rfl 3 (by decide) (hts _ q265) (fun _ h9 => h9) rfl dX3_word_50 ?_
        rw [hw2, show b + (a - b) = a by omega]
        refine lv_icmp_ge (tgt := 74) hx hb dX3_word_53 (by decide) (fun _ => ?_) (fun c1 => absurd (Int32.le_refl _) c1)
        refine lv_aload_n hx hb dX3_word_74 rfl (lv_at hl 1 rfl) ?_
        refine cWVP (cR k ard ord) (sbC k q v (cpS (a - b)) (a - b) f) (As := []) (ci := 16) ⟨hx, hb, hml, hown, hts⟩ hOK hz hS hA hP hD (mtJ4_toString l D k Z hOK hCs q v (cpS (a - b)) (a - b) f hF hcb.1 (by omega)) (kJ4_toString hts q906 rfl rfl ⟨Nat.le_of_ble_eq_true rfl, Nat.le_of_ble_eq_true rfl⟩) 0 rfl rfl rfl hl.1 rfl (lv_room (Nat.le_of_ble_eq_true rfl)) ⟨(by show 2 + mcS (a - b) + 2 ≤ 9; omega), (by show 20 + msS (a - b) + (4 + (a - b)) ≤ 1600; omega)⟩ dX3_word_75 (fun r_ w_ H locs hq hP hD hS => ?_)
        obtain ⟨q2, v1, f1, rfl, hF1, hf1, rfl⟩ := hq
        have hP := zdropP (x := ((cR k ard ord) ++ strC k q2 v1 (a - b) 0 false f1)) (y := (sbC k q v (cpS (a - b)) (a - b) f)) hP
        have hD := zdropD (x := ((cR k ard ord) ++ strC k q2 v1 (a - b) 0 false f1)) (y := (sbC k q v (cpS (a - b)) (a - b) f)) hD
        refine W.widen (k := 9) (n := 1600) (by omega) (by omega) ?_
        exact retW_a hx hb hr (Or.inl ⟨_, rfl⟩) hlocks hP hD hS ⟨q2, v1, f1, rfl, hF1, (fun j hj => (hf1 j hj).trans (hag j hj)), rfl⟩ dX3_word_78
      | succ j ih =>
        intro i hi v f hF hag H locs hP hD hS ls hl
        have hcb := cpS_b (i := i) (by omega)
        have hcb1 := cpS_b (i := i + 1) (by omega)
        obtain ⟨c9, hc9, htp, hsb⟩ := hw5 (b + i) (by omega) (by omega)
        refine lv_iload_n hx hb dX3_word_48 rfl (lv_at hl 0 rfl) ?_
        refine lv_aload_n hx hb dX3_word_49 rfl (lv_at hl 2 rfl) ?_
        refine va_get (ci := 3) (v := .int (rd_at_ ord)) (C := RX3) (T := TX3) (N := 7) hx hb hts in_X3 hown hK hP 0 rfl rfl 3 (by decide) (hts _ q265) (fun _ h9 => h9) rfl dX3_word_50 ?_
        rw [hw2]
        refine lv_icmp_ge (tgt := 74) hx hb dX3_word_53 (by decide) (fun c1 => absurd c1 (nI_ge (by omega) (by omega))) (fun _ => ?_)
        refine lv_aload_n hx hb dX3_word_56 rfl (lv_at hl 1 rfl) ?_
        refine lv_aload_n hx hb dX3_word_57 rfl (lv_at hl 2 rfl) ?_
        refine va_get (ci := 3) (v := .ref (ard 1)) (C := RX3) (T := TX3) (N := 7) hx hb hts in_X3 hown hK hP 0 rfl rfl 0 (by decide) (hts _ q260) (fun _ h9 => h9) rfl dX3_word_58 ?_
        refine lv_iload_n hx hb dX3_word_61 rfl (lv_at hl 0 rfl) ?_
        refine va_bald hx hb hK hP 1 2 rfl rfl (vp_in_nI (show b + i < 400 by omega) (by omega)) dX3_word_62 ?_
        rw [nI_clamp (show b + i < 2 ^ 31 by omega), htp]
        refine lv_i2c (v := nI c9) hx hb dX3_word_63 (sb_byte c9 hc9).2.1 ?_
        refine cWVP (cR k ard ord) (sbC k q v (cpS i) i f) (As := [.int (nI c9)]) (ci := 16) ⟨hx, hb, hml, hown, hts⟩ hOK hz hS hA hP hD (mtJ4_append l D k Z hOK hCs hPv q v (cpS i) i c9 f hF hc9 (by omega) hcb.1) (kJ4_append hts q819 rfl rfl ⟨Nat.le_of_ble_eq_true rfl, Nat.le_of_ble_eq_true rfl⟩) 0 rfl rfl rfl hl.1 rfl (lv_room (Nat.le_of_ble_eq_true rfl)) ⟨(by show 2 + mcS i + mbSb i (cpS i) ≤ 9; have h7 : mcS (i + 1) = mcS i + mbSb i (cpS i) := rfl; omega), (by show 20 + msS i + msSb i (cpS i) ≤ 1600; have h7 : msS (i + 1) = msS i + msSb i (cpS i) := rfl; omega)⟩ dX3_word_64 (fun r_ w_ H locs hq hP hD hS => ?_)
        obtain ⟨v2, f2, rfl, ⟨hF2, hf2, hf3⟩, rfl⟩ := hq
        refine lv_pop hx hb dX3_word_67 rfl ?_
        refine lv_iinc (v := nI (b + i) + 1) (lv' := [(2, .int (nI (b + i) + 1)), (1, .ref q), (0, .ref (ard 0))]) hx hb dX3_word_68 hl (k := 0) rfl rfl (by decide) rfl (fun ls hl => ?_)
        rw [← nI_succ] at hl
        refine lv_goto (tgt := 48) hx hb dX3_word_71 (by decide) ?_
        refine W.widen (k := 2 + mcS (i + 1)) (n := 20 + msS (i + 1)) (by show 2 + mcS i + mbSb i (cpS i) ≤ 2 + (mcS i + mbSb i (cpS i)); omega) (by show 20 + msS i + msSb i (cpS i) ≤ 20 + (msS i + msSb i (cpS i)); omega) ?_
        refine ih (i + 1) (by omega) v2 f2 hF2 (fun x hx9 => ?_) H locs hP hD hS ls hl
        rcases Nat.lt_or_ge x i with h | h
        · exact (hf2 x h).trans (hag x h)
        · obtain rfl : x = i := by omega
          rw [hf3, htp, hsb]
    refine W.widen (k := 2 + mcS 0) (n := 20 + msS 0) (Nat.le_of_ble_eq_true rfl) (Nat.le_of_ble_eq_true rfl) ?_
    exact key (a - b) 0 (by omega) v (fun _ => 0) sb_fit0 (fun x h => absurd h (Nat.not_lt_zero x)) H locs hP hD hS ls hl
  unfold fX3_word at hrun
  obtain ⟨s1, hbl, hrun⟩ := mob_s rfl hrun
  refine lv_aload_n hx hb dX3_word_0 rfl (lv_at hl 0 rfl) ?_
  refine cWV0 (As := []) (ci := 3) ⟨hx, hb, hml, hown, hts⟩ hOK hz hS hA hP hD (mtX3_blanks l D k ard Z hOK _ _ hbl) (kX3_blanks hts q771 rfl rfl ⟨Nat.le_of_ble_eq_true rfl, Nat.le_of_ble_eq_true rfl⟩) 0 rfl rfl rfl hl.1 rfl (lv_room (Nat.le_of_ble_eq_true rfl)) ⟨(Nat.le_of_ble_eq_true rfl), (Nat.le_of_ble_eq_true rfl)⟩ dX3_word_1 (fun r_ w_ H locs hq hP hD hS => ?_)
  obtain ⟨rfl, rfl⟩ := hq
  have lp : ∀ (n : Nat) (srd : Rd) (H : Heap) (locs : List Loc), va_P D zCl (cR k ard srd) H → va_D A (cR k ard srd) → va_S A s.heap H locs → ∀ ls : Array Slot, lv_has ls 3 [(0, .ref (ard 0))] → fX3_wL n srd = some ord → W p l e9 rX3_word s m args below meth c H locs 0 0 (MQ below (QWr (fun r' w' => ∃ (q v1 : Nat) (f1 : Nat → Int32), r' = some (.ref q) ∧ sb_Fit f1 ∧ (∀ j, j < a - b → f1 j = rd_tape ord (b + j)) ∧ w' = (cR k ard ord ++ strC k q v1 (a - b) 0 false f1)) D zCl A) args s 9 1600 A) (F0 m 4 ls []) := by
    intro n
    induction n with
    | zero => intro srd H locs hP hD hS ls hl hrun; exact nomatch hrun
    | succ n ih =>
      intro srd H locs hP hD hS ls hl hrun
      rw [fX3_wL.eq_2] at hrun
      obtain ⟨r1, hc1, hrun⟩ := mob_s rfl hrun
      obtain ⟨b1, hc2, hrun⟩ := mob_s rfl hrun
      refine lv_aload_n hx hb dX3_word_4 rfl (lv_at hl 0 rfl) ?_
      refine lv_aload_n hx hb dX3_word_5 rfl (lv_at hl 0 rfl) ?_
      refine va_get (ci := 3) (v := .int (rd_at_ srd)) (C := RX3) (T := TX3) (N := 7) hx hb hts in_X3 hown hK hP 0 rfl rfl 3 (by decide) (hts _ q265) (fun _ h9 => h9) rfl dX3_word_6 ?_
      refine cRV (As := [.int (rd_at_ srd)]) (ci := 3) ⟨hx, hb, hml, hown, hts⟩ hOK hz hS hP (mtX3_byteAt l D k ard Z hOK _ _ _ hc1) (kX3_byteAt hts q775 rfl rfl ⟨Nat.le_of_ble_eq_true rfl, Nat.le_of_ble_eq_true rfl⟩) 0 rfl rfl rfl hl.1 rfl (lv_room (Nat.le_of_ble_eq_true rfl)) ⟨(Nat.le_of_ble_eq_true rfl), (Nat.le_of_ble_eq_true rfl)⟩ dX3_word_9 ?_
      refine lv_bipush (v := (97 : Int32)) hx hb dX3_word_12 (by decide) ?_
      refine lv_bipush (v := (122 : Int32)) hx hb dX3_word_14 (by decide) ?_
      refine cRSN (ws := []) (As := [.int r1, .int (97 : Int32), .int (122 : Int32)]) ⟨hx, hb, hml, hown, hts⟩ hOK hz hS zP0 (mtX1_in l D Z hOK _ _ _ _ hc2) (kX1_inn hN hts (hN _ (zN_of q787 rfl)) rfl rfl ⟨Nat.le_of_ble_eq_true rfl, Nat.le_of_ble_eq_true rfl⟩) rfl hl.1 rfl (lv_room (Nat.le_of_ble_eq_true rfl)) ⟨(Nat.le_of_ble_eq_true rfl), (Nat.le_of_ble_eq_true rfl)⟩ dX3_word_16 ?_
      cases b1 with
      | false =>
        refine lv_if_eq (tgt := 35) hx hb dX3_word_19 (by decide) (fun _ => ?_) (fun c1 => absurd rfl c1)
        obtain rfl : srd = ord := Option.some.inj hrun
        exact tail H locs hP hD hS ls hl
      | true =>
        refine lv_if_eq (tgt := 35) hx hb dX3_word_19 (by decide) (fun c1 => absurd c1 (by decide)) (fun _ => ?_)
        refine lv_aload_n hx hb dX3_word_22 rfl (lv_at hl 0 rfl) ?_
        refine lv_dup hx hb dX3_word_23 rfl ?_
        refine va_get (ci := 3) (v := .int (rd_at_ srd)) (C := RX3) (T := TX3) (N := 7) hx hb hts in_X3 hown hK hP 0 rfl rfl 3 (by decide) (hts _ q265) (fun _ h9 => h9) rfl dX3_word_24 ?_
        refine lv_iconst (v := (1 : Int32)) hx hb dX3_word_27 (by decide) ?_
        refine lv_iadd hx hb dX3_word_28 ?_
        refine va_put (ci := 3) (v := .int (rd_at_ srd + 1)) (ty := tyX3 3) (C := RX3) (T := TX3) (N := 7) hx hb hts in_X3 tyX3 tyX3_ok nmX3 hown hK hP hD hS 0 rfl rfl 3 (by decide) (hts _ q265) (fun _ h9 => h9) rfl (tyX3_ok 3 (by decide)) rfl rfl (Nat.le_of_ble_eq_true rfl) dX3_word_29 (fun H locs hP hD hS => ?_)
        have hP : va_P D zCl (cR k ard (rd_s_at_ srd (rd_at_ srd + 1))) _ := hP
        have hD : va_D A (cR k ard (rd_s_at_ srd (rd_at_ srd + 1))) := hD
        refine lv_goto (tgt := 4) hx hb dX3_word_32 (by decide) ?_
        exact ih _ H locs hP hD hS ls hl hrun
  exact lp mFU s1 H locs hP hD hS ls hl hrun
