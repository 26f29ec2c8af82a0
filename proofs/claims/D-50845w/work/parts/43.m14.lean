/-! ===== THE MODEL, 14: agree; what would be (printed by a program of gen/) ===== -/
set_option maxRecDepth 100000
section M14
variable {G : zG} {h : zH} {o : Nat} {P : pRow}
theorem c_X4_givesText (hM : MdL h o) (hP : gI h (o + 1) = P) (hw : pWf P) {k : Nat} (hS : PsM h o P k (qN P k)) : zM G zX4_givesText 1 [.ref o] h (zOkI (fun z h1 => z = 1 ∧ zIo [o + 14] h h1)) := by
  obtain ⟨w0, w0b, w1, w1b, w2, w2b, w3, w3b, w4, w4b, w5, w5b, wp, wl, wn⟩ := id hw
  refine zM.ofV (lv := [(0, .ref o)]) (by decide +kernel) (Nat.le_of_ble_eq_true rfl) rfl ?_
  refine zV_iconst (n := 0) dX4_givesText_0 ?_
  refine zV_istore_n (lv' := [(0, .ref o), (1, .int (jI (0)))]) 1 dX4_givesText_1 rfl (by decide) rfl rfl ?_
  have hN := qN_le hw k
  have hE : (qP P k (qN P k) : Int) = P 0 := (qN_ok hw k).2.1
  have key : ∀ f j : Nat, ∀ g : zH, j + f = qN P k → zIo [o + 14] h g → (∀ i, i < qP P k j → gI g (o + 14) i = P (i + 43)) → zV G zX4_givesText 1 2 [(0, .ref o), (1, .int (jI (((j : Nat) : Int))))] [] g (zOkI (fun z h1 => z = 1 ∧ zIo [o + 14] h h1)) := by
    intro f
    induction f with
    | zero =>
      intro j g h1 i1 i2
      have hM2 : MdL g o := hM.io i1
      have hP2 : gI g (o + 1) = P := (i1.row (by simp)).trans hP
      have hS2 : PsM g o P k (qN P k) := hS.ch (zCh.io i1 (by simp) : zCh [o + 14] o [] h g) (by simp) (by simp) (by simp) (by simp)
      refine zV_iload_n 1 dX4_givesText_2 rfl rfl ?_
      refine zV_aload_n 0 dX4_givesText_3 rfl rfl (Or.inr ⟨_, rfl⟩) ?_
      refine zV_tgetf (ci := 3) (q := (RX4, TX4, 27)) 14 dX4_givesText_4 q1931 (md_k hM2) rfl (by decide) rfl (by decide) ?_
      refine zV.eq (show ((zI g o 14).toInt : Int) = ((qN P k : Nat) : Int) from hS2.1) ?_
      refine zV_jcmp_ge 98 dX4_givesText_7 rfl ⟨by omega, by omega⟩ ⟨by omega, by omega⟩ (fun c1 => ?_) (fun c_ => absurd c_ (by omega))
      refine zV_aload_n 0 dX4_givesText_98 rfl rfl (Or.inr ⟨_, rfl⟩) ?_
      refine zc_V (y' := zX4_ends) (as := []) (rest := []) (ci := 3) (q := (RX4, TX4, 27)) bX4_ends dX4_givesText_99 q2337 q2339 qs102 (md_k hM2) rfl (c_X4_ends hM2 hw hS2 (Nat.le_refl _)) rfl rfl (by decide) (Nat.le_of_ble_eq_true rfl) (by decide) (zk_J1 ?_)
      refine zV_aload_n 0 dX4_givesText_102 rfl rfl (Or.inr ⟨_, rfl⟩) ?_
      refine zc_V (y' := zX4_many) (as := []) (rest := [.int (jI (((qP P k (qN P k) : Nat) : Int)))]) (ci := 3) (q := (RX4, TX4, 27)) bX4_many dX4_givesText_103 q2042 q2044 qs50 (md_k hM2) rfl (c_X4_many hM2 hP2) rfl rfl (by decide) (Nat.le_of_ble_eq_true rfl) (by decide) (zk_J1 ?_)
      refine zV_jcmp_ne 113 dX4_givesText_106 rfl ⟨by omega, by omega⟩ (by rw [← hP2]; exact jr_toInt _) (fun c_ => absurd c_ (by omega)) (fun c2 => ?_)
      refine zV_iconst (n := 1) dX4_givesText_109 ?_
      refine zV_goto 114 dX4_givesText_110 rfl ?_
      exact zV_ireturn dX4_givesText_114 rfl rfl ⟨_, rfl, rfl, i1⟩
    | succ f ih =>
      intro j g h1 i1 i2
      have hM2 : MdL g o := hM.io i1
      have hP2 : gI g (o + 1) = P := (i1.row (by simp)).trans hP
      have hS2 : PsM g o P k (qN P k) := hS.ch (zCh.io i1 (by simp) : zCh [o + 14] o [] h g) (by simp) (by simp) (by simp) (by simp)
      have hq := q_b hw (k := k) (j := j) (by omega)
      have hj := hS2.2 j (by omega)
      refine zV_iload_n 1 dX4_givesText_2 rfl rfl ?_
      refine zV_aload_n 0 dX4_givesText_3 rfl rfl (Or.inr ⟨_, rfl⟩) ?_
      refine zV_tgetf (ci := 3) (q := (RX4, TX4, 27)) 14 dX4_givesText_4 q1931 (md_k hM2) rfl (by decide) rfl (by decide) ?_
      refine zV.eq (show ((zI g o 14).toInt : Int) = ((qN P k : Nat) : Int) from hS2.1) ?_
      refine zV_jcmp_ge 98 dX4_givesText_7 rfl ⟨by omega, by omega⟩ ⟨by omega, by omega⟩ (fun c_ => absurd c_ (by omega)) (fun c1 => ?_)
      refine zV_aload_n 0 dX4_givesText_10 rfl rfl (Or.inr ⟨_, rfl⟩) ?_
      refine zV_getf (v := .ref (o + 9)) (ci := 3) (q := (RX4, TX4, 27)) 11 dX4_givesText_11 q1928 (md_k hM2) rfl (by decide) (congrArg va_rf (md_r_from hM2)) (by decide) ?_
      refine zV_iload_n 1 dX4_givesText_14 rfl rfl ?_
      refine zV_tiald j 64 dX4_givesText_15 (md_k_from hM2) (md_z_from hM2) (by omega) (by omega) (by omega) ?_
      refine zV.eq (show ((zI g (o + 9) j).toInt : Int) = ((qP P k j : Nat) : Int) from hj.1) ?_
      refine zV_istore_n (lv' := [(0, .ref o), (1, .int (jI (((j : Nat) : Int)))), (2, .int (jI (((qP P k j : Nat) : Int))))]) 2 dX4_givesText_16 rfl (by decide) rfl rfl ?_
      have key2 : ∀ f2 i : Nat, ∀ g : zH, i + f2 = qP P k j + qG P k j → qP P k j ≤ i → zIo [o + 14] h g → (∀ q, q < i → gI g (o + 14) q = P (q + 43)) → zV G zX4_givesText 1 17 [(0, .ref o), (1, .int (jI (((j : Nat) : Int)))), (2, .int (jI (((i : Nat) : Int))))] [] g (zOkI (fun z h1 => z = 1 ∧ zIo [o + 14] h h1)) := by
        intro f2
        induction f2 with
        | zero =>
          intro i g h5 h6 i1 i2
          have hM2 : MdL g o := hM.io i1
          have hP2 : gI g (o + 1) = P := (i1.row (by simp)).trans hP
          have hS2 : PsM g o P k (qN P k) := hS.ch (zCh.io i1 (by simp) : zCh [o + 14] o [] h g) (by simp) (by simp) (by simp) (by simp)
          have hj2 := hS2.2 j (by omega)
          refine zV_iload_n 2 dX4_givesText_17 rfl rfl ?_
          refine zV_aload_n 0 dX4_givesText_18 rfl rfl (Or.inr ⟨_, rfl⟩) ?_
          refine zV_getf (v := .ref (o + 9)) (ci := 3) (q := (RX4, TX4, 27)) 11 dX4_givesText_19 q1928 (md_k hM2) rfl (by decide) (congrArg va_rf (md_r_from hM2)) (by decide) ?_
          refine zV_iload_n 1 dX4_givesText_22 rfl rfl ?_
          refine zV_tiald j 64 dX4_givesText_23 (md_k_from hM2) (md_z_from hM2) (by omega) (by omega) (by omega) ?_
          refine zV.eq (show ((zI g (o + 9) j).toInt : Int) = ((qP P k j : Nat) : Int) from hj2.1) ?_
          refine zV_aload_n 0 dX4_givesText_24 rfl rfl (Or.inr ⟨_, rfl⟩) ?_
          refine zV_getf (v := .ref (o + 10)) (ci := 3) (q := (RX4, TX4, 27)) 12 dX4_givesText_25 q1929 (md_k hM2) rfl (by decide) (congrArg va_rf (md_r_length hM2)) (by decide) ?_
          refine zV_iload_n 1 dX4_givesText_28 rfl rfl ?_
          refine zV_tiald j 64 dX4_givesText_29 (md_k_length hM2) (md_z_length hM2) (by omega) (by omega) (by omega) ?_
          refine zV.eq (show ((zI g (o + 10) j).toInt : Int) = ((qG P k j : Nat) : Int) from hj2.2.1) ?_
          refine zV_jadd dX4_givesText_30 ?_
          refine zV_jcmp_ge 92 dX4_givesText_31 rfl ⟨by omega, by omega⟩ ⟨by omega, by omega⟩ (fun c3 => ?_) (fun c_ => absurd c_ (by omega))
          refine zV_jinc (lv' := [(0, .ref o), (1, .int (jI (((j : Nat) : Int) + 1))), (2, .int (jI (((i : Nat) : Int))))]) dX4_givesText_92 rfl (by decide) rfl rfl ?_
          refine zV_goto 2 dX4_givesText_95 rfl ?_
          refine zV.loc (lv' := [(0, .ref o), (1, .int (jI (((j : Nat) : Int) + 1)))]) (fun q_ hq_ => (List.Sublist.cons₂ _ (List.Sublist.cons₂ _ (List.Sublist.cons _ List.Sublist.slnil))).subset hq_) ?_
          rw [show (((j : Nat) : Int) + 1 : Int) = ((j + 1 : Nat) : Int) from by omega]
          exact ih (j + 1) g (by omega) i1 (fun q hq2 => i2 q (by rw [qP_s] at hq2; omega))
        | succ f2 ih2 =>
          intro i g h5 h6 i1 i2
          have hM2 : MdL g o := hM.io i1
          have hP2 : gI g (o + 1) = P := (i1.row (by simp)).trans hP
          have hS2 : PsM g o P k (qN P k) := hS.ch (zCh.io i1 (by simp) : zCh [o + 14] o [] h g) (by simp) (by simp) (by simp) (by simp)
          have hj2 := hS2.2 j (by omega)
          refine zV_iload_n 2 dX4_givesText_17 rfl rfl ?_
          refine zV_aload_n 0 dX4_givesText_18 rfl rfl (Or.inr ⟨_, rfl⟩) ?_
          refine zV_getf (v := .ref (o + 9)) (ci := 3) (q := (RX4, TX4, 27)) 11 dX4_givesText_19 q1928 (md_k hM2) rfl (by decide) (congrArg va_rf (md_r_from hM2)) (by decide) ?_
          refine zV_iload_n 1 dX4_givesText_22 rfl rfl ?_
          refine zV_tiald j 64 dX4_givesText_23 (md_k_from hM2) (md_z_from hM2) (by omega) (by omega) (by omega) ?_
          refine zV.eq (show ((zI g (o + 9) j).toInt : Int) = ((qP P k j : Nat) : Int) from hj2.1) ?_
          refine zV_aload_n 0 dX4_givesText_24 rfl rfl (Or.inr ⟨_, rfl⟩) ?_
          refine zV_getf (v := .ref (o + 10)) (ci := 3) (q := (RX4, TX4, 27)) 12 dX4_givesText_25 q1929 (md_k hM2) rfl (by decide) (congrArg va_rf (md_r_length hM2)) (by decide) ?_
          refine zV_iload_n 1 dX4_givesText_28 rfl rfl ?_
          refine zV_tiald j 64 dX4_givesText_29 (md_k_length hM2) (md_z_length hM2) (by omega) (by omega) (by omega) ?_
          refine zV.eq (show ((zI g (o + 10) j).toInt : Int) = ((qG P k j : Nat) : Int) from hj2.2.1) ?_
          refine zV_jadd dX4_givesText_30 ?_
          refine zV_jcmp_ge 92 dX4_givesText_31 rfl ⟨by omega, by omega⟩ ⟨by omega, by omega⟩ (fun c_ => absurd c_ (by omega)) (fun c3 => ?_)
          have hlt := pW_le hw (j := i) (by omega)
          refine zV_aload_n 0 dX4_givesText_34 rfl rfl (Or.inr ⟨_, rfl⟩) ?_
          refine zV_getf (v := .ref (o + 14)) (ci := 3) (q := (RX4, TX4, 27)) 24 dX4_givesText_35 q1941 (md_k hM2) rfl (by decide) (congrArg va_rf (md_r_done hM2)) (by decide) ?_
          refine zV_iload_n 2 dX4_givesText_38 rfl rfl ?_
          refine zV_aload_n 0 dX4_givesText_39 rfl rfl (Or.inr ⟨_, rfl⟩) ?_
          refine zV_getf (v := .ref (o + 11)) (ci := 3) (q := (RX4, TX4, 27)) 13 dX4_givesText_40 q1930 (md_k hM2) rfl (by decide) (congrArg va_rf (md_r_distance hM2)) (by decide) ?_
          refine zV_iload_n 1 dX4_givesText_43 rfl rfl ?_
          refine zV_tiald j 64 dX4_givesText_44 (md_k_distance hM2) (md_z_distance hM2) (by omega) (by omega) (by omega) ?_
          refine zV.eq (show ((zI g (o + 11) j).toInt : Int) = ((qD P k j : Nat) : Int) from hj2.2.2) ?_
          refine zV_jif_ne 56 dX4_givesText_45 rfl ⟨by omega, by omega⟩ (fun c4 => ?_) (fun c4 => ?_)
          · refine zV_aload_n 0 dX4_givesText_56 rfl rfl (Or.inr ⟨_, rfl⟩) ?_
            refine zV_getf (v := .ref (o + 14)) (ci := 3) (q := (RX4, TX4, 27)) 24 dX4_givesText_57 q1941 (md_k hM2) rfl (by decide) (congrArg va_rf (md_r_done hM2)) (by decide) ?_
            refine zV_iload_n 2 dX4_givesText_60 rfl rfl ?_
            refine zV_aload_n 0 dX4_givesText_61 rfl rfl (Or.inr ⟨_, rfl⟩) ?_
            refine zV_getf (v := .ref (o + 11)) (ci := 3) (q := (RX4, TX4, 27)) 13 dX4_givesText_62 q1930 (md_k hM2) rfl (by decide) (congrArg va_rf (md_r_distance hM2)) (by decide) ?_
            refine zV_iload_n 1 dX4_givesText_65 rfl rfl ?_
            refine zV_tiald j 64 dX4_givesText_66 (md_k_distance hM2) (md_z_distance hM2) (by omega) (by omega) (by omega) ?_
            refine zV.eq (show ((zI g (o + 11) j).toInt : Int) = ((qD P k j : Nat) : Int) from hj2.2.2) ?_
            refine zV_jsub dX4_givesText_67 ?_
            refine zV.eq (show (((i : Nat) : Int) - ((qD P k j : Nat) : Int) : Int) = ((i - qD P k j : Nat) : Int) from by omega) ?_
            refine zV_tiald (i - qD P k j) 64 dX4_givesText_68 (md_k_done hM2) (md_z_done hM2) (by omega) (by omega) (by omega) ?_
            refine zV.eq (show ((zI g (o + 14) (i - qD P k j)).toInt : Int) = P (i + 43) from (i2 _ (by omega)).trans (q_same hw (by omega) (by omega) (by omega) (by omega)).symm) ?_
            refine zV_jiast (x := jI (P (i + 43))) i 64 dX4_givesText_69 (md_k_done hM2) (Nat.le_trans (md_ge hM2) (by omega)) (md_z_done hM2) (by omega) (by omega) (by omega) ?_
            have i3 := i1.put (q := o + 14) (k := i) (x := jI (P (i + 43))) (by simp)
            have hM3 := hM.io i3
            have hP3 : gI (sI g (o + 14) i (jI (P (i + 43)))) (o + 1) = P := (i3.row (by simp)).trans hP
            refine zV_aload_n 0 dX4_givesText_70 rfl rfl (Or.inr ⟨_, rfl⟩) ?_
            refine zV_getf (v := .ref (o + 14)) (ci := 3) (q := (RX4, TX4, 27)) 24 dX4_givesText_71 q1941 (md_k hM3) rfl (by decide) (congrArg va_rf (md_r_done hM3)) (by decide) ?_
            refine zV_iload_n 2 dX4_givesText_74 rfl rfl ?_
            refine zV_tiald i 64 dX4_givesText_75 (md_k_done hM3) (md_z_done hM3) (by omega) (by omega) (by omega) ?_
            refine zV.eq (show ((zI (sI g (o + 14) i (jI (P (i + 43)))) (o + 14) i).toInt : Int) = P (i + 43) from gI_put_s ⟨by omega, by omega⟩) ?_
            refine zV_aload_n 0 dX4_givesText_76 rfl rfl (Or.inr ⟨_, rfl⟩) ?_
            refine zV_iload_n 2 dX4_givesText_77 rfl rfl ?_
            refine zc_V (y' := zX4_letter) (as := [.int (jI (((i : Nat) : Int)))]) (rest := [.int (jI (P (i + 43)))]) (ci := 3) (q := (RX4, TX4, 27)) bX4_letter dX4_givesText_78 q2176 q2178 qs77 (md_k hM3) rfl (c_X4_letter hM3 hP3 (i) (by omega)) rfl rfl (by decide) (Nat.le_of_ble_eq_true rfl) (by decide) (zk_J1 ?_)
            refine zV_jcmp_eq 86 dX4_givesText_81 rfl (by rw [← hP3]; exact jr_toInt _) (by rw [← hP3]; exact jr_toInt _) (fun c5 => ?_) (fun c_ => absurd c_ (by omega))
            refine zV_jinc (lv' := [(0, .ref o), (1, .int (jI (((j : Nat) : Int)))), (2, .int (jI (((i : Nat) : Int) + 1)))]) dX4_givesText_86 rfl (by decide) rfl rfl ?_
            refine zV_goto 17 dX4_givesText_89 rfl ?_
            rw [show (((i : Nat) : Int) + 1 : Int) = ((i + 1 : Nat) : Int) from by omega]
            refine ih2 (i + 1) _ (by omega) (by omega) i3 (fun q hq2 => ?_)
            by_cases e : q = i
            · subst e; exact gI_put_s ⟨by omega, by omega⟩
            · rw [gI_ne (fun z => e z.2)]; exact i2 q (by omega)
          · refine zV_aload_n 0 dX4_givesText_48 rfl rfl (Or.inr ⟨_, rfl⟩) ?_
            refine zV_iload_n 2 dX4_givesText_49 rfl rfl ?_
            refine zc_V (y' := zX4_letter) (as := [.int (jI (((i : Nat) : Int)))]) (rest := [.int (jI (((i : Nat) : Int))), .ref (o + 14)]) (ci := 3) (q := (RX4, TX4, 27)) bX4_letter dX4_givesText_50 q2176 q2178 qs77 (md_k hM2) rfl (c_X4_letter hM2 hP2 (i) (by omega)) rfl rfl (by decide) (Nat.le_of_ble_eq_true rfl) (by decide) (zk_J1 ?_)
            refine zV_goto 69 dX4_givesText_53 rfl ?_
            refine zV_jiast (x := jI (P (i + 43))) i 64 dX4_givesText_69 (md_k_done hM2) (Nat.le_trans (md_ge hM2) (by omega)) (md_z_done hM2) (by omega) (by omega) (by omega) ?_
            have i3 := i1.put (q := o + 14) (k := i) (x := jI (P (i + 43))) (by simp)
            have hM3 := hM.io i3
            have hP3 : gI (sI g (o + 14) i (jI (P (i + 43)))) (o + 1) = P := (i3.row (by simp)).trans hP
            refine zV_aload_n 0 dX4_givesText_70 rfl rfl (Or.inr ⟨_, rfl⟩) ?_
            refine zV_getf (v := .ref (o + 14)) (ci := 3) (q := (RX4, TX4, 27)) 24 dX4_givesText_71 q1941 (md_k hM3) rfl (by decide) (congrArg va_rf (md_r_done hM3)) (by decide) ?_
            refine zV_iload_n 2 dX4_givesText_74 rfl rfl ?_
            refine zV_tiald i 64 dX4_givesText_75 (md_k_done hM3) (md_z_done hM3) (by omega) (by omega) (by omega) ?_
            refine zV.eq (show ((zI (sI g (o + 14) i (jI (P (i + 43)))) (o + 14) i).toInt : Int) = P (i + 43) from gI_put_s ⟨by omega, by omega⟩) ?_
            refine zV_aload_n 0 dX4_givesText_76 rfl rfl (Or.inr ⟨_, rfl⟩) ?_
            refine zV_iload_n 2 dX4_givesText_77 rfl rfl ?_
            refine zc_V (y' := zX4_letter) (as := [.int (jI (((i : Nat) : Int)))]) (rest := [.int (jI (P (i + 43)))]) (ci := 3) (q := (RX4, TX4, 27)) bX4_letter dX4_givesText_78 q2176 q2178 qs77 (md_k hM3) rfl (c_X4_letter hM3 hP3 (i) (by omega)) rfl rfl (by decide) (Nat.le_of_ble_eq_true rfl) (by decide) (zk_J1 ?_)
            refine zV_jcmp_eq 86 dX4_givesText_81 rfl (by rw [← hP3]; exact jr_toInt _) (by rw [← hP3]; exact jr_toInt _) (fun c5 => ?_) (fun c_ => absurd c_ (by omega))
            refine zV_jinc (lv' := [(0, .ref o), (1, .int (jI (((j : Nat) : Int)))), (2, .int (jI (((i : Nat) : Int) + 1)))]) dX4_givesText_86 rfl (by decide) rfl rfl ?_
            refine zV_goto 17 dX4_givesText_89 rfl ?_
            rw [show (((i : Nat) : Int) + 1 : Int) = ((i + 1 : Nat) : Int) from by omega]
            refine ih2 (i + 1) _ (by omega) (by omega) i3 (fun q hq2 => ?_)
            by_cases e : q = i
            · subst e; exact gI_put_s ⟨by omega, by omega⟩
            · rw [gI_ne (fun z => e z.2)]; exact i2 q (by omega)
      exact key2 (qG P k j) (qP P k j) g (by omega) (Nat.le_refl _) i1 i2
  exact key (qN P k) 0 h (by omega) zIo.rf (fun i hi => absurd hi (Nat.not_lt_zero _))
/-- what agree answers -/
abbrev agB (P : pRow) : Prop := leF P (P 0).toNat = bPr P ∧ bPr P ≤ qS P 0 ∧ bPr P ≤ qS P 1 ∧ bPr P ≤ qS P 2 ∧ bPr P ≤ qS P 3 ∧ qS P 3 = bPr P
theorem leF_b {P : pRow} (hw : pWf P) (p : Nat) : 0 ≤ leF P p ∧ leF P p ≤ 1000000 := by
  unfold leF
  refine fU_ind (fun _ (x : Int) => 0 ≤ x ∧ x ≤ 1000000) _ _ _ ⟨by decide, by decide⟩ (fun l x _ _ hx => ?_)
  have h1 := fo_b hw (66 * p + 2 * l)
  have h2 := fo_b hw (66 * p + 2 * l + 1)
  constructor <;> omega
theorem c_X4_agree (hM : MdL h o) (hP : gI h (o + 1) = P) (hw : pWf P) : zM G zX4_agree 8 [.ref o] h (zOkI (fun z h1 => z = bI (agB P) ∧ zSc o h h1 ∧ gI h1 o 0 = 0)) := by
  obtain ⟨w0, w0b, w1, w1b, w2, w2b, w3, w3b, w4, w4b, w5, w5b, wp, wl, wn⟩ := id hw
  refine zM.ofV (lv := [(0, .ref o)]) (by decide +kernel) (Nat.le_of_ble_eq_true rfl) rfl ?_
  have hlB := leF_b hw (P 0).toNat
  have hbB := bPr_b hw
  refine zV_aload_n 0 dX4_agree_0 rfl rfl (Or.inr ⟨_, rfl⟩) ?_
  refine zV_iconst (n := 0) dX4_agree_1 ?_
  refine zV_putI (x := jI (0)) (ci := 3) (q := (RX4, TX4, 27)) 0 dX4_agree_2 q1917 (md_ge hM) (md_k hM) rfl (by decide) rfl (fun _ _ => rfl) rfl rfl (by decide) ?_
  have c0 : zCh [o + 6, o + 7, o + 8, o + 9, o + 10, o + 11, o + 14] o [0, 14] h (sI h o 0 (jI 0)) := zCh.rf.puto (by simp)
  have t0 : gI (sI h o 0 (jI 0)) o 0 = 0 := gI_put_s ⟨by decide, by decide⟩
  generalize sI h o 0 (jI 0) = h0 at c0 t0 ⊢
  have hM0 := hM.ch c0
  have hP0 : gI h0 (o + 1) = P := (c0.row (by simp)).trans hP
  refine zV_aload_n 0 dX4_agree_5 rfl rfl (Or.inr ⟨_, rfl⟩) ?_
  refine zc_V (y' := zX4_laysRest) (as := []) (rest := []) (ci := 3) (q := (RX4, TX4, 27)) bX4_laysRest dX4_agree_6 q2317 q2319 qs98 (md_k hM0) rfl (c_X4_laysRest hM0 hP0 hw) rfl rfl (by decide) (Nat.le_of_ble_eq_true rfl) (by decide) (zk_I (fun z h2 ⟨ez, j1, j2, j3⟩ _ => ?_))
  subst ez
  have c2 : zCh [o + 6, o + 7, o + 8, o + 9, o + 10, o + 11, o + 14] o [0, 14] h h2 := c0.tr (zCh.io (j1.mono (by simp)) (by simp))
  have t2 : gI h2 o 0 = 0 := (congrFun (j1.row (by simp)) 0).trans t0
  have hM2 := hM.ch c2
  have hP2 : gI h2 (o + 1) = P := (c2.row (by simp)).trans hP
  refine zV_istore_n (lv' := [(0, .ref o), (1, .int (jI (bPr P)))]) 1 dX4_agree_9 rfl (by decide) rfl rfl ?_
  refine zV_aload_n 0 dX4_agree_10 rfl rfl (Or.inr ⟨_, rfl⟩) ?_
  refine zc_V (y' := zX4_laysFore) (as := []) (rest := []) (ci := 3) (q := (RX4, TX4, 27)) bX4_laysFore dX4_agree_11 q2421 q2423 qs118 (md_k hM2) rfl (c_X4_laysFore hM2 hP2 hw j2) rfl rfl (by decide) (Nat.le_of_ble_eq_true rfl) (by decide) (zk_V (fun h3 ⟨k1, k2⟩ _ => ?_))
  have c3 : zCh [o + 6, o + 7, o + 8, o + 9, o + 10, o + 11, o + 14] o [0, 14] h h3 := c2.tr (zCh.io (k1.mono (by simp)) (by simp))
  have t3 : gI h3 o 0 = 0 := (congrFun (k1.row (by simp)) 0).trans t2
  have hM3 := hM.ch c3
  have hP3 : gI h3 (o + 1) = P := (c3.row (by simp)).trans hP
  refine zV_aload_n 0 dX4_agree_14 rfl rfl (Or.inr ⟨_, rfl⟩) ?_
  refine zV_aload_n 0 dX4_agree_15 rfl rfl (Or.inr ⟨_, rfl⟩) ?_
  refine zc_V (y' := zX4_many) (as := []) (rest := [.ref o]) (ci := 3) (q := (RX4, TX4, 27)) bX4_many dX4_agree_16 q2042 q2044 qs50 (md_k hM3) rfl (c_X4_many hM3 hP3) rfl rfl (by decide) (Nat.le_of_ble_eq_true rfl) (by decide) (zk_J1 ?_)
  refine zV.eq (show (P 0 : Int) = (((P 0).toNat : Nat) : Int) from by omega) ?_
  refine zc_V (y' := zX4_leastFore) (as := [.int (jI ((((P 0).toNat : Nat) : Int)))]) (rest := []) (ci := 3) (q := (RX4, TX4, 27)) bX4_leastFore dX4_agree_19 q2449 q2451 qs123 (md_k hM3) rfl (c_X4_leastFore hM3 hw k2 (P 0).toNat (by omega)) rfl rfl (by decide) (Nat.le_of_ble_eq_true rfl) (by decide) (zk_J1 ?_)
  refine zV_iload_n 1 dX4_agree_22 rfl rfl ?_
  refine zV_jcmp_eq 28 dX4_agree_23 rfl ⟨by omega, by omega⟩ ⟨by omega, by omega⟩ (fun c1 => ?_) (fun c1 => ?_)
  · refine zV_iconst (n := 0) dX4_agree_28 ?_
    refine zV_istore_n (lv' := [(0, .ref o), (1, .int (jI (bPr P))), (2, .int (jI (0)))]) 2 dX4_agree_29 rfl (by decide) rfl rfl ?_
    rw [show (0 : Int) = ((0 : Nat) : Int) from by rfl]
    refine zV_iload_n 2 dX4_agree_30 rfl rfl ?_
    refine zV_iconst (n := 4) dX4_agree_31 ?_
    refine zV_jcmp_ge 71 dX4_agree_32 rfl ⟨by omega, by omega⟩ ⟨by decide, by decide⟩ (fun c_ => absurd c_ (by omega)) (fun cz => ?_)
    refine zV_aload_n 0 dX4_agree_35 rfl rfl (Or.inr ⟨_, rfl⟩) ?_
    refine zV_iload_n 2 dX4_agree_36 rfl rfl ?_
    have hS0 := qS_b hw 0
    refine zc_V (y' := zX4_costOf) (as := [.int (jI (((0 : Nat) : Int)))]) (rest := []) (ci := 3) (q := (RX4, TX4, 27)) bX4_costOf dX4_agree_37 q2453 q2455 qs124 (md_k hM3) rfl (c_X4_costOf hM3 hP3 hw 0 (by omega)) rfl rfl (by decide) (Nat.le_of_ble_eq_true rfl) (by decide) (zk_I (fun z h40 ⟨ez, m1, m2, m3⟩ _ => ?_))
    subst ez
    have d0 : zCh [o + 6, o + 7, o + 8, o + 9, o + 10, o + 11, o + 14] o [0, 14] h h40 := c3.tr (m1.mono (by simp) (by simp))
    have u0 : gI h40 o 0 = 0 := (m1.2 0 (by simp)).trans t3
    have hN0 := hM.ch d0
    have hO0 : gI h40 (o + 1) = P := (d0.row (by simp)).trans hP
    refine zV_istore_n (lv' := [(0, .ref o), (1, .int (jI (bPr P))), (2, .int (jI (((0 : Nat) : Int)))), (3, .int (jI (qS P 0)))]) 3 dX4_agree_40 rfl (by decide) rfl rfl ?_
    refine zV_iload_n 3 dX4_agree_41 rfl rfl ?_
    refine zV_iload_n 1 dX4_agree_42 rfl rfl ?_
    refine zV_jcmp_lt 63 dX4_agree_43 rfl ⟨by omega, by omega⟩ ⟨by omega, by omega⟩ (fun b0 => ?_) (fun b0 => ?_)
    · refine zV_iconst (n := 0) dX4_agree_63 ?_
      exact zV_ireturn dX4_agree_64 rfl rfl ⟨_, rfl, (bI_f (fun z => by have := z.2; omega)).symm, d0.mono (by simp) (by simp), u0⟩
    · refine zV_iload_n 2 dX4_agree_46 rfl rfl ?_
      refine zV_iconst (n := 3) dX4_agree_47 ?_
      refine zV_jcmp_ne 56 dX4_agree_48 rfl ⟨by omega, by omega⟩ ⟨by decide, by decide⟩ (fun cy => ?_) (fun c_ => absurd c_ (by omega))
      refine zV_aload_n 0 dX4_agree_56 rfl rfl (Or.inr ⟨_, rfl⟩) ?_
      refine zc_V (y' := zX4_givesText) (as := []) (rest := []) (ci := 3) (q := (RX4, TX4, 27)) bX4_givesText dX4_agree_57 q2457 q2459 qs125 (md_k hN0) rfl (c_X4_givesText hN0 hO0 hw m2) rfl rfl (by decide) (Nat.le_of_ble_eq_true rfl) (by decide) (zk_I (fun z h50 ⟨ez, n1⟩ _ => ?_))
      subst ez
      have d50 : zCh [o + 6, o + 7, o + 8, o + 9, o + 10, o + 11, o + 14] o [0, 14] h h50 := d0.tr (zCh.io (n1.mono (by simp)) (by simp))
      have u50 : gI h50 o 0 = 0 := (congrFun (n1.row (by simp)) 0).trans u0
      have hN50 := hM.ch d50
      have hO50 : gI h50 (o + 1) = P := (d50.row (by simp)).trans hP
      refine zV_jif_ne 65 dX4_agree_60 rfl ⟨by decide, by decide⟩ (fun _ => ?_) (fun c_ => absurd c_ (by decide))
      refine zV_jinc (lv' := [(0, .ref o), (1, .int (jI (bPr P))), (2, .int (jI (((0 : Nat) : Int) + 1))), (3, .int (jI (qS P 0)))]) dX4_agree_65 rfl (by decide) rfl rfl ?_
      refine zV_goto 30 dX4_agree_68 rfl ?_
      refine zV.loc (lv' := [(0, .ref o), (1, .int (jI (bPr P))), (2, .int (jI (((0 : Nat) : Int) + 1)))]) (fun q_ hq_ => (List.Sublist.cons₂ _ (List.Sublist.cons₂ _ (List.Sublist.cons₂ _ (List.Sublist.cons _ List.Sublist.slnil)))).subset hq_) ?_
      rw [show (((0 : Nat) : Int) + 1 : Int) = ((1 : Nat) : Int) from by rfl]
      refine zV_iload_n 2 dX4_agree_30 rfl rfl ?_
      refine zV_iconst (n := 4) dX4_agree_31 ?_
      refine zV_jcmp_ge 71 dX4_agree_32 rfl ⟨by omega, by omega⟩ ⟨by decide, by decide⟩ (fun c_ => absurd c_ (by omega)) (fun cz => ?_)
      refine zV_aload_n 0 dX4_agree_35 rfl rfl (Or.inr ⟨_, rfl⟩) ?_
      refine zV_iload_n 2 dX4_agree_36 rfl rfl ?_
      have hS1 := qS_b hw 1
      refine zc_V (y' := zX4_costOf) (as := [.int (jI (((1 : Nat) : Int)))]) (rest := []) (ci := 3) (q := (RX4, TX4, 27)) bX4_costOf dX4_agree_37 q2453 q2455 qs124 (md_k hN50) rfl (c_X4_costOf hN50 hO50 hw 1 (by omega)) rfl rfl (by decide) (Nat.le_of_ble_eq_true rfl) (by decide) (zk_I (fun z h41 ⟨ez, m1, m2, m3⟩ _ => ?_))
      subst ez
      have d1 : zCh [o + 6, o + 7, o + 8, o + 9, o + 10, o + 11, o + 14] o [0, 14] h h41 := d50.tr (m1.mono (by simp) (by simp))
      have u1 : gI h41 o 0 = 0 := (m1.2 0 (by simp)).trans u50
      have hN1 := hM.ch d1
      have hO1 : gI h41 (o + 1) = P := (d1.row (by simp)).trans hP
      refine zV_istore_n (lv' := [(0, .ref o), (1, .int (jI (bPr P))), (2, .int (jI (((1 : Nat) : Int)))), (3, .int (jI (qS P 1)))]) 3 dX4_agree_40 rfl (by decide) rfl rfl ?_
      refine zV_iload_n 3 dX4_agree_41 rfl rfl ?_
      refine zV_iload_n 1 dX4_agree_42 rfl rfl ?_
      refine zV_jcmp_lt 63 dX4_agree_43 rfl ⟨by omega, by omega⟩ ⟨by omega, by omega⟩ (fun b1 => ?_) (fun b1 => ?_)
      · refine zV_iconst (n := 0) dX4_agree_63 ?_
        exact zV_ireturn dX4_agree_64 rfl rfl ⟨_, rfl, (bI_f (fun z => by have := z.2; omega)).symm, d1.mono (by simp) (by simp), u1⟩
      · refine zV_iload_n 2 dX4_agree_46 rfl rfl ?_
        refine zV_iconst (n := 3) dX4_agree_47 ?_
        refine zV_jcmp_ne 56 dX4_agree_48 rfl ⟨by omega, by omega⟩ ⟨by decide, by decide⟩ (fun cy => ?_) (fun c_ => absurd c_ (by omega))
        refine zV_aload_n 0 dX4_agree_56 rfl rfl (Or.inr ⟨_, rfl⟩) ?_
        refine zc_V (y' := zX4_givesText) (as := []) (rest := []) (ci := 3) (q := (RX4, TX4, 27)) bX4_givesText dX4_agree_57 q2457 q2459 qs125 (md_k hN1) rfl (c_X4_givesText hN1 hO1 hw m2) rfl rfl (by decide) (Nat.le_of_ble_eq_true rfl) (by decide) (zk_I (fun z h51 ⟨ez, n1⟩ _ => ?_))
        subst ez
        have d51 : zCh [o + 6, o + 7, o + 8, o + 9, o + 10, o + 11, o + 14] o [0, 14] h h51 := d1.tr (zCh.io (n1.mono (by simp)) (by simp))
        have u51 : gI h51 o 0 = 0 := (congrFun (n1.row (by simp)) 0).trans u1
        have hN51 := hM.ch d51
        have hO51 : gI h51 (o + 1) = P := (d51.row (by simp)).trans hP
        refine zV_jif_ne 65 dX4_agree_60 rfl ⟨by decide, by decide⟩ (fun _ => ?_) (fun c_ => absurd c_ (by decide))
        refine zV_jinc (lv' := [(0, .ref o), (1, .int (jI (bPr P))), (2, .int (jI (((1 : Nat) : Int) + 1))), (3, .int (jI (qS P 1)))]) dX4_agree_65 rfl (by decide) rfl rfl ?_
        refine zV_goto 30 dX4_agree_68 rfl ?_
        refine zV.loc (lv' := [(0, .ref o), (1, .int (jI (bPr P))), (2, .int (jI (((1 : Nat) : Int) + 1)))]) (fun q_ hq_ => (List.Sublist.cons₂ _ (List.Sublist.cons₂ _ (List.Sublist.cons₂ _ (List.Sublist.cons _ List.Sublist.slnil)))).subset hq_) ?_
        rw [show (((1 : Nat) : Int) + 1 : Int) = ((2 : Nat) : Int) from by rfl]
        refine zV_iload_n 2 dX4_agree_30 rfl rfl ?_
        refine zV_iconst (n := 4) dX4_agree_31 ?_
        refine zV_jcmp_ge 71 dX4_agree_32 rfl ⟨by omega, by omega⟩ ⟨by decide, by decide⟩ (fun c_ => absurd c_ (by omega)) (fun cz => ?_)
        refine zV_aload_n 0 dX4_agree_35 rfl rfl (Or.inr ⟨_, rfl⟩) ?_
        refine zV_iload_n 2 dX4_agree_36 rfl rfl ?_
        have hS2 := qS_b hw 2
        refine zc_V (y' := zX4_costOf) (as := [.int (jI (((2 : Nat) : Int)))]) (rest := []) (ci := 3) (q := (RX4, TX4, 27)) bX4_costOf dX4_agree_37 q2453 q2455 qs124 (md_k hN51) rfl (c_X4_costOf hN51 hO51 hw 2 (by omega)) rfl rfl (by decide) (Nat.le_of_ble_eq_true rfl) (by decide) (zk_I (fun z h42 ⟨ez, m1, m2, m3⟩ _ => ?_))
        subst ez
        have d2 : zCh [o + 6, o + 7, o + 8, o + 9, o + 10, o + 11, o + 14] o [0, 14] h h42 := d51.tr (m1.mono (by simp) (by simp))
        have u2 : gI h42 o 0 = 0 := (m1.2 0 (by simp)).trans u51
        have hN2 := hM.ch d2
        have hO2 : gI h42 (o + 1) = P := (d2.row (by simp)).trans hP
        refine zV_istore_n (lv' := [(0, .ref o), (1, .int (jI (bPr P))), (2, .int (jI (((2 : Nat) : Int)))), (3, .int (jI (qS P 2)))]) 3 dX4_agree_40 rfl (by decide) rfl rfl ?_
        refine zV_iload_n 3 dX4_agree_41 rfl rfl ?_
        refine zV_iload_n 1 dX4_agree_42 rfl rfl ?_
        refine zV_jcmp_lt 63 dX4_agree_43 rfl ⟨by omega, by omega⟩ ⟨by omega, by omega⟩ (fun b2 => ?_) (fun b2 => ?_)
        · refine zV_iconst (n := 0) dX4_agree_63 ?_
          exact zV_ireturn dX4_agree_64 rfl rfl ⟨_, rfl, (bI_f (fun z => by have := z.2; omega)).symm, d2.mono (by simp) (by simp), u2⟩
        · refine zV_iload_n 2 dX4_agree_46 rfl rfl ?_
          refine zV_iconst (n := 3) dX4_agree_47 ?_
          refine zV_jcmp_ne 56 dX4_agree_48 rfl ⟨by omega, by omega⟩ ⟨by decide, by decide⟩ (fun cy => ?_) (fun c_ => absurd c_ (by omega))
          refine zV_aload_n 0 dX4_agree_56 rfl rfl (Or.inr ⟨_, rfl⟩) ?_
          refine zc_V (y' := zX4_givesText) (as := []) (rest := []) (ci := 3) (q := (RX4, TX4, 27)) bX4_givesText dX4_agree_57 q2457 q2459 qs125 (md_k hN2) rfl (c_X4_givesText hN2 hO2 hw m2) rfl rfl (by decide) (Nat.le_of_ble_eq_true rfl) (by decide) (zk_I (fun z h52 ⟨ez, n1⟩ _ => ?_))
          subst ez
          have d52 : zCh [o + 6, o + 7, o + 8, o + 9, o + 10, o + 11, o + 14] o [0, 14] h h52 := d2.tr (zCh.io (n1.mono (by simp)) (by simp))
          have u52 : gI h52 o 0 = 0 := (congrFun (n1.row (by simp)) 0).trans u2
          have hN52 := hM.ch d52
          have hO52 : gI h52 (o + 1) = P := (d52.row (by simp)).trans hP
          refine zV_jif_ne 65 dX4_agree_60 rfl ⟨by decide, by decide⟩ (fun _ => ?_) (fun c_ => absurd c_ (by decide))
          refine zV_jinc (lv' := [(0, .ref o), (1, .int (jI (bPr P))), (2, .int (jI (((2 : Nat) : Int) + 1))), (3, .int (jI (qS P 2)))]) dX4_agree_65 rfl (by decide) rfl rfl ?_
          refine zV_goto 30 dX4_agree_68 rfl ?_
          refine zV.loc (lv' := [(0, .ref o), (1, .int (jI (bPr P))), (2, .int (jI (((2 : Nat) : Int) + 1)))]) (fun q_ hq_ => (List.Sublist.cons₂ _ (List.Sublist.cons₂ _ (List.Sublist.cons₂ _ (List.Sublist.cons _ List.Sublist.slnil)))).subset hq_) ?_
          rw [show (((2 : Nat) : Int) + 1 : Int) = ((3 : Nat) : Int) from by rfl]
          refine zV_iload_n 2 dX4_agree_30 rfl rfl ?_
          refine zV_iconst (n := 4) dX4_agree_31 ?_
          refine zV_jcmp_ge 71 dX4_agree_32 rfl ⟨by omega, by omega⟩ ⟨by decide, by decide⟩ (fun c_ => absurd c_ (by omega)) (fun cz => ?_)
          refine zV_aload_n 0 dX4_agree_35 rfl rfl (Or.inr ⟨_, rfl⟩) ?_
          refine zV_iload_n 2 dX4_agree_36 rfl rfl ?_
          have hS3 := qS_b hw 3
          refine zc_V (y' := zX4_costOf) (as := [.int (jI (((3 : Nat) : Int)))]) (rest := []) (ci := 3) (q := (RX4, TX4, 27)) bX4_costOf dX4_agree_37 q2453 q2455 qs124 (md_k hN52) rfl (c_X4_costOf hN52 hO52 hw 3 (by omega)) rfl rfl (by decide) (Nat.le_of_ble_eq_true rfl) (by decide) (zk_I (fun z h43 ⟨ez, m1, m2, m3⟩ _ => ?_))
          subst ez
          have d3 : zCh [o + 6, o + 7, o + 8, o + 9, o + 10, o + 11, o + 14] o [0, 14] h h43 := d52.tr (m1.mono (by simp) (by simp))
          have u3 : gI h43 o 0 = 0 := (m1.2 0 (by simp)).trans u52
          have hN3 := hM.ch d3
          have hO3 : gI h43 (o + 1) = P := (d3.row (by simp)).trans hP
          refine zV_istore_n (lv' := [(0, .ref o), (1, .int (jI (bPr P))), (2, .int (jI (((3 : Nat) : Int)))), (3, .int (jI (qS P 3)))]) 3 dX4_agree_40 rfl (by decide) rfl rfl ?_
          refine zV_iload_n 3 dX4_agree_41 rfl rfl ?_
          refine zV_iload_n 1 dX4_agree_42 rfl rfl ?_
          refine zV_jcmp_lt 63 dX4_agree_43 rfl ⟨by omega, by omega⟩ ⟨by omega, by omega⟩ (fun b3 => ?_) (fun b3 => ?_)
          · refine zV_iconst (n := 0) dX4_agree_63 ?_
            exact zV_ireturn dX4_agree_64 rfl rfl ⟨_, rfl, (bI_f (fun z => by have := z.2; omega)).symm, d3.mono (by simp) (by simp), u3⟩
          · refine zV_iload_n 2 dX4_agree_46 rfl rfl ?_
            refine zV_iconst (n := 3) dX4_agree_47 ?_
            refine zV_jcmp_ne 56 dX4_agree_48 rfl ⟨by omega, by omega⟩ ⟨by decide, by decide⟩ (fun c_ => absurd c_ (by omega)) (fun cy => ?_)
            refine zV_iload_n 3 dX4_agree_51 rfl rfl ?_
            refine zV_iload_n 1 dX4_agree_52 rfl rfl ?_
            refine zV_jcmp_ne 63 dX4_agree_53 rfl ⟨by omega, by omega⟩ ⟨by omega, by omega⟩ (fun e3 => ?_) (fun e3 => ?_)
            · refine zV_iconst (n := 0) dX4_agree_63 ?_
              exact zV_ireturn dX4_agree_64 rfl rfl ⟨_, rfl, (bI_f (fun z => by have := z.2; omega)).symm, d3.mono (by simp) (by simp), u3⟩
            · refine zV_aload_n 0 dX4_agree_56 rfl rfl (Or.inr ⟨_, rfl⟩) ?_
              refine zc_V (y' := zX4_givesText) (as := []) (rest := []) (ci := 3) (q := (RX4, TX4, 27)) bX4_givesText dX4_agree_57 q2457 q2459 qs125 (md_k hN3) rfl (c_X4_givesText hN3 hO3 hw m2) rfl rfl (by decide) (Nat.le_of_ble_eq_true rfl) (by decide) (zk_I (fun z h53 ⟨ez, n1⟩ _ => ?_))
              subst ez
              have d53 : zCh [o + 6, o + 7, o + 8, o + 9, o + 10, o + 11, o + 14] o [0, 14] h h53 := d3.tr (zCh.io (n1.mono (by simp)) (by simp))
              have u53 : gI h53 o 0 = 0 := (congrFun (n1.row (by simp)) 0).trans u3
              have hN53 := hM.ch d53
              have hO53 : gI h53 (o + 1) = P := (d53.row (by simp)).trans hP
              refine zV_jif_ne 65 dX4_agree_60 rfl ⟨by decide, by decide⟩ (fun _ => ?_) (fun c_ => absurd c_ (by decide))
              refine zV_jinc (lv' := [(0, .ref o), (1, .int (jI (bPr P))), (2, .int (jI (((3 : Nat) : Int) + 1))), (3, .int (jI (qS P 3)))]) dX4_agree_65 rfl (by decide) rfl rfl ?_
              refine zV_goto 30 dX4_agree_68 rfl ?_
              refine zV.loc (lv' := [(0, .ref o), (1, .int (jI (bPr P))), (2, .int (jI (((3 : Nat) : Int) + 1)))]) (fun q_ hq_ => (List.Sublist.cons₂ _ (List.Sublist.cons₂ _ (List.Sublist.cons₂ _ (List.Sublist.cons _ List.Sublist.slnil)))).subset hq_) ?_
              rw [show (((3 : Nat) : Int) + 1 : Int) = ((4 : Nat) : Int) from by rfl]
              refine zV_iload_n 2 dX4_agree_30 rfl rfl ?_
              refine zV_iconst (n := 4) dX4_agree_31 ?_
              refine zV_jcmp_ge 71 dX4_agree_32 rfl ⟨by omega, by omega⟩ ⟨by decide, by decide⟩ (fun cz => ?_) (fun c_ => absurd c_ (by omega))
              refine zV_iconst (n := 1) dX4_agree_71 ?_
              exact zV_ireturn dX4_agree_72 rfl rfl ⟨_, rfl, (bI_t ⟨c1, by omega, by omega, by omega, by omega, by omega⟩).symm, d53.mono (by simp) (by simp), u53⟩
  · refine zV_iconst (n := 0) dX4_agree_26 ?_
    exact zV_ireturn dX4_agree_27 rfl rfl ⟨_, rfl, (bI_f (fun z => c1 z.1)).symm, c3.mono (by simp) (by simp), t3⟩
theorem c_X4_copies {a b na nb : Nat} (ka : zK h a = 50) (kb : zK h b = 50) (za : zZ h a = na) (zb : zZ h b = nb) (hb64 : 64 ≤ b) (at0 pl n : Nat) (h1 : at0 + n ≤ na) (h2 : pl + n ≤ nb) (h3 : na < 5000) (h4 : nb < 5000) (hne : a ≠ b ∨ pl ≤ at0) : zM G zX4_copies 0 [.ref a, .int (jI (at0 : Int)), .ref b, .int (jI (pl : Int)), .int (jI (n : Int))] h (zOkV (fun h1 => zIo [b] h h1 ∧ gI h1 b = cpR (gI h a) at0 (gI h b) pl n)) := by
  refine zM.ofV (lv := [(0, .ref a), (1, .int (jI (((at0 : Nat) : Int)))), (2, .ref b), (3, .int (jI (((pl : Nat) : Int)))), (4, .int (jI (((n : Nat) : Int))))]) (by decide +kernel) (Nat.le_of_ble_eq_true rfl) rfl ?_
  refine zV_iconst (n := 0) dX4_copies_0 ?_
  refine zV_istore (lv' := [(0, .ref a), (1, .int (jI (((at0 : Nat) : Int)))), (2, .ref b), (3, .int (jI (((pl : Nat) : Int)))), (4, .int (jI (((n : Nat) : Int)))), (5, .int (jI (0)))]) dX4_copies_1 (by decide) rfl rfl ?_
  have key : ∀ f k : Nat, ∀ g : zH, k + f = n → zIo [b] h g → gI g b = cpR (gI h a) at0 (gI h b) pl k → zV G zX4_copies 0 3 [(0, .ref a), (1, .int (jI (((at0 : Nat) : Int)))), (2, .ref b), (3, .int (jI (((pl : Nat) : Int)))), (4, .int (jI (((n : Nat) : Int)))), (5, .int (jI (((k : Nat) : Int))))] [] g (zOkV (fun h1 => zIo [b] h h1 ∧ gI h1 b = cpR (gI h a) at0 (gI h b) pl n)) := by
    intro f
    induction f with
    | zero =>
      intro k g h1 i1 i2
      have ka2 : zK g a = 50 := by rw [i1.1]; exact ka
      have kb2 : zK g b = 50 := by rw [i1.1]; exact kb
      have za2 : zZ g a = na := by rw [i1.1]; exact za
      have zb2 : zZ g b = nb := by rw [i1.1]; exact zb
      refine zV_iload dX4_copies_3 rfl ?_
      refine zV_iload dX4_copies_5 rfl ?_
      refine zV_jcmp_ge 28 dX4_copies_7 rfl ⟨by omega, by omega⟩ ⟨by omega, by omega⟩ (fun c1 => ?_) (fun c_ => absurd c_ (by omega))
      exact zV_return dX4_copies_28 rfl ⟨rfl, i1, by rw [i2, show k = n by omega]⟩
    | succ f ih =>
      intro k g h1 i1 i2
      have ka2 : zK g a = 50 := by rw [i1.1]; exact ka
      have kb2 : zK g b = 50 := by rw [i1.1]; exact kb
      have za2 : zZ g a = na := by rw [i1.1]; exact za
      have zb2 : zZ g b = nb := by rw [i1.1]; exact zb
      refine zV_iload dX4_copies_3 rfl ?_
      refine zV_iload dX4_copies_5 rfl ?_
      refine zV_jcmp_ge 28 dX4_copies_7 rfl ⟨by omega, by omega⟩ ⟨by omega, by omega⟩ (fun c_ => absurd c_ (by omega)) (fun c1 => ?_)
      refine zV_aload_n 2 dX4_copies_10 rfl rfl (Or.inr ⟨_, rfl⟩) ?_
      refine zV_iload_n 3 dX4_copies_11 rfl rfl ?_
      refine zV_iload dX4_copies_12 rfl ?_
      refine zV_jadd dX4_copies_14 ?_
      refine zV_aload_n 0 dX4_copies_15 rfl rfl (Or.inr ⟨_, rfl⟩) ?_
      refine zV_iload_n 1 dX4_copies_16 rfl rfl ?_
      refine zV_iload dX4_copies_17 rfl ?_
      refine zV_jadd dX4_copies_19 ?_
      refine zV_tiald (at0 + k) na dX4_copies_20 ka2 za2 (by omega) (by omega) (by omega) ?_
      refine zV.eq (show ((zI g a (at0 + k)).toInt : Int) = gI h a (at0 + k) from by
          by_cases e : a = b
          · subst e
            show gI g a (at0 + k) = gI h a (at0 + k)
            rw [i2, cpR, if_neg (by rcases hne with z | z; exact absurd rfl z; omega)]
          · exact congrFun (i1.row (by simp [e])) (at0 + k)) ?_
      refine zV_jiast (x := jI (gI h a (at0 + k))) (pl + k) nb dX4_copies_21 kb2 hb64 zb2 (by omega) (by omega) (by omega) ?_
      refine zV_jinc (lv' := [(0, .ref a), (1, .int (jI (((at0 : Nat) : Int)))), (2, .ref b), (3, .int (jI (((pl : Nat) : Int)))), (4, .int (jI (((n : Nat) : Int)))), (5, .int (jI (((k : Nat) : Int) + 1)))]) dX4_copies_22 rfl (by decide) rfl rfl ?_
      refine zV_goto 3 dX4_copies_25 rfl ?_
      rw [show (((k : Nat) : Int) + 1 : Int) = ((k + 1 : Nat) : Int) from by omega]
      refine ih (k + 1) _ (by omega) (i1.put (by simp)) (funext fun j => ?_)
      rw [gI_put (jr_toInt _), i2]
      unfold cpR
      by_cases e : j = pl + k
      · rw [if_pos ⟨rfl, e⟩, if_pos (by omega), e, show pl + k - pl = k by omega]
      · rw [if_neg (fun z => e z.2)]
        by_cases e2 : pl ≤ j ∧ j < pl + k
        · rw [if_pos e2, if_pos (by omega)]
        · rw [if_neg e2, if_neg (by omega)]
  exact key n 0 h (by omega) zIo.rf (funext fun j => by unfold cpR; rw [if_neg (by omega)])
end M14
