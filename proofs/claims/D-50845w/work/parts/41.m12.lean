/-! ===== THE MODEL, 12: questions about parses (printed by a program of gen/) ===== -/
set_option maxRecDepth 100000
section M12
variable {G : zG} {h : zH} {o : Nat} {P : pRow}
def cpN (P : pRow) (k : Nat) : Int := fU (fun i a => a + bI (0 < qD P k i)) (qN P k) 0 0
def rnN (P : pRow) (k : Nat) : Int := fU (fun i a => a + bI (qD P k i = 0 ∧ qR P k i = 0)) (qN P k) 0 0
def agN (P : pRow) (k : Nat) : Int := fU (fun i a => a + bI (0 < qD P k i ∧ qD P k i = qL P k i)) (qN P k) 0 0
def deN (P : pRow) (k : Nat) : Int := fU (fun i a => max a (qC P k i)) (qN P k) 0 0
def cpP (P : pRow) (k : Nat) : Int := fU (fun i a => a + (if 0 < qD P k i then (qG P k i : Int) else 0)) (qN P k) 0 0
theorem qC_b {P : pRow} (hw : pWf P) {k i : Nat} (hi : i < qN P k) : 0 ≤ qC P k i ∧ qC P k i ≤ 600 := by
  have h := q_b hw hi
  unfold qC
  split
  · have := lC_b hw h.1 (qR P k i)
    omega
  · exact cC_b hw _ _ _
theorem qS_b {P : pRow} (hw : pWf P) (k : Nat) : 0 ≤ qS P k ∧ qS P k ≤ 38400 := by
  have h := fU_ind (f := fun i a => a + qC P k i) (fun i (a : Int) => 0 ≤ a ∧ a ≤ 600 * (i : Int)) (qN P k) 0 0 ⟨by decide, by decide⟩ (fun i a _ h2 h3 => by
    have := qC_b hw (k := k) (i := i) (by omega)
    constructor <;> omega)
  have := qN_le hw k
  unfold qS
  constructor <;> omega
theorem bPr_b {P : pRow} (hw : pWf P) : 0 ≤ bPr P ∧ bPr P ≤ 5120 := (rt_rB hw).b hw (Nat.zero_le _) (by omega)
theorem fU_b {f : Nat → Int → Int} (hf : ∀ i a, a ≤ f i a ∧ f i a ≤ a + 64) (n : Nat) : 0 ≤ fU f n 0 0 ∧ fU f n 0 0 ≤ 64 * (n : Int) := by
  have h := fU_ind (f := f) (fun i (a : Int) => 0 ≤ a ∧ a ≤ 64 * (i : Int)) n 0 0 ⟨by decide, by decide⟩ (fun i a _ _ h3 => by
    have := hf i a
    constructor <;> omega)
  rw [Nat.zero_add] at h
  exact h
theorem c_X4_copySteps (hM : MdL h o) (hP : gI h (o + 1) = P) (hw : pWf P) {k : Nat} (hS : PsM h o P k (qN P k)) : zM G zX4_copySteps 1 [.ref o] h (zJ h (some (.int (jI (cpN P k))))) := by
  have hN := qN_le hw k
  refine zM.ofV (lv := [(0, .ref o)]) (by decide +kernel) (Nat.le_of_ble_eq_true rfl) rfl ?_
  refine zV_iconst (n := 0) dX4_copySteps_0 ?_
  refine zV_istore_n (lv' := [(0, .ref o), (1, .int (jI (0)))]) 1 dX4_copySteps_1 rfl (by decide) rfl rfl ?_
  refine zV_iconst (n := 0) dX4_copySteps_2 ?_
  refine zV_istore_n (lv' := [(0, .ref o), (1, .int (jI (0))), (2, .int (jI (0)))]) 2 dX4_copySteps_3 rfl (by decide) rfl rfl ?_
  have key : ∀ f i : Nat, ∀ a : Int, i + f = qN P k → zV G zX4_copySteps 1 4 [(0, .ref o), (1, .int (jI ((a : Int)))), (2, .int (jI (((i : Nat) : Int))))] [] h (zJ h (some (.int (jI (fU (fun i a => a + bI (0 < qD P k i)) f i a))))) := by
    intro f
    induction f with
    | zero =>
      intro i a h1
      refine zV_iload_n 2 dX4_copySteps_4 rfl rfl ?_
      refine zV_aload_n 0 dX4_copySteps_5 rfl rfl (Or.inr ⟨_, rfl⟩) ?_
      refine zV_tgetf (ci := 3) (q := (RX4, TX4, 27)) 14 dX4_copySteps_6 q1931 (md_k hM) rfl (by decide) rfl (by decide) ?_
      refine zV.eq (show ((zI h o 14).toInt : Int) = ((qN P k : Nat) : Int) from hS.1) ?_
      refine zV_jcmp_ge 38 dX4_copySteps_9 rfl ⟨by omega, by omega⟩ ⟨by omega, by omega⟩ (fun c1 => ?_) (fun c_ => absurd c_ (by omega))
      refine zV_iload_n 1 dX4_copySteps_38 rfl rfl ?_
      exact zV_ireturn dX4_copySteps_39 rfl rfl ⟨rfl, rfl⟩
    | succ f ih =>
      intro i a h1
      have hq := q_b hw (k := k) (j := i) (by omega)
      have hj := hS.2 i (by omega)
      refine zV_iload_n 2 dX4_copySteps_4 rfl rfl ?_
      refine zV_aload_n 0 dX4_copySteps_5 rfl rfl (Or.inr ⟨_, rfl⟩) ?_
      refine zV_tgetf (ci := 3) (q := (RX4, TX4, 27)) 14 dX4_copySteps_6 q1931 (md_k hM) rfl (by decide) rfl (by decide) ?_
      refine zV.eq (show ((zI h o 14).toInt : Int) = ((qN P k : Nat) : Int) from hS.1) ?_
      refine zV_jcmp_ge 38 dX4_copySteps_9 rfl ⟨by omega, by omega⟩ ⟨by omega, by omega⟩ (fun c_ => absurd c_ (by omega)) (fun c1 => ?_)
      refine zV_iload_n 1 dX4_copySteps_12 rfl rfl ?_
      refine zV_aload_n 0 dX4_copySteps_13 rfl rfl (Or.inr ⟨_, rfl⟩) ?_
      refine zV_getf (v := .ref (o + 11)) (ci := 3) (q := (RX4, TX4, 27)) 13 dX4_copySteps_14 q1930 (md_k hM) rfl (by decide) (congrArg va_rf (md_r_distance hM)) (by decide) ?_
      refine zV_iload_n 2 dX4_copySteps_17 rfl rfl ?_
      refine zV_tiald i 64 dX4_copySteps_18 (md_k_distance hM) (md_z_distance hM) (by omega) (by omega) (by omega) ?_
      refine zV.eq (show ((zI h (o + 11) i).toInt : Int) = ((qD P k i : Nat) : Int) from hj.2.2) ?_
      refine zV_jif_le 26 dX4_copySteps_19 rfl ⟨by omega, by omega⟩ (fun c2 => ?_) (fun c2 => ?_)
      · refine zV_iconst (n := 0) dX4_copySteps_26 ?_
        refine zV.eq (show (0 : Int) = bI (0 < qD P k i) from (bI_f (by omega)).symm) ?_
        refine zc_S (y' := zX4_bit) (as := [.int (jI (bI (0 < qD P k i)))]) (rest := [.int (jI ((a : Int)))]) bX4_bit dX4_copySteps_27 q2180 q2181 (c_X4_bit _) rfl rfl (by decide) (Nat.le_of_ble_eq_true rfl) (zk_J1 ?_)
        refine zV_jadd dX4_copySteps_30 ?_
        refine zV_istore_n (lv' := [(0, .ref o), (1, .int (jI ((a : Int) + (bI (0 < qD P k i))))), (2, .int (jI (((i : Nat) : Int))))]) 1 dX4_copySteps_31 rfl (by decide) rfl rfl ?_
        refine zV_jinc (lv' := [(0, .ref o), (1, .int (jI ((a : Int) + (bI (0 < qD P k i))))), (2, .int (jI (((i : Nat) : Int) + 1)))]) dX4_copySteps_32 rfl (by decide) rfl rfl ?_
        refine zV_goto 4 dX4_copySteps_35 rfl ?_
        rw [show (((i : Nat) : Int) + 1 : Int) = ((i + 1 : Nat) : Int) from by omega]
        exact ih (i + 1) _ (by omega)
      · refine zV_iconst (n := 1) dX4_copySteps_22 ?_
        refine zV_goto 27 dX4_copySteps_23 rfl ?_
        refine zV.eq (show (1 : Int) = bI (0 < qD P k i) from (bI_t (by omega)).symm) ?_
        refine zc_S (y' := zX4_bit) (as := [.int (jI (bI (0 < qD P k i)))]) (rest := [.int (jI ((a : Int)))]) bX4_bit dX4_copySteps_27 q2180 q2181 (c_X4_bit _) rfl rfl (by decide) (Nat.le_of_ble_eq_true rfl) (zk_J1 ?_)
        refine zV_jadd dX4_copySteps_30 ?_
        refine zV_istore_n (lv' := [(0, .ref o), (1, .int (jI ((a : Int) + (bI (0 < qD P k i))))), (2, .int (jI (((i : Nat) : Int))))]) 1 dX4_copySteps_31 rfl (by decide) rfl rfl ?_
        refine zV_jinc (lv' := [(0, .ref o), (1, .int (jI ((a : Int) + (bI (0 < qD P k i))))), (2, .int (jI (((i : Nat) : Int) + 1)))]) dX4_copySteps_32 rfl (by decide) rfl rfl ?_
        refine zV_goto 4 dX4_copySteps_35 rfl ?_
        rw [show (((i : Nat) : Int) + 1 : Int) = ((i + 1 : Nat) : Int) from by omega]
        exact ih (i + 1) _ (by omega)
  exact key (qN P k) 0 0 (by omega)
theorem c_X4_runMany (hM : MdL h o) (hP : gI h (o + 1) = P) (hw : pWf P) {k : Nat} (hS : PsM h o P k (qN P k)) : zM G zX4_runMany 1 [.ref o] h (zJ h (some (.int (jI (rnN P k))))) := by
  have hN := qN_le hw k
  refine zM.ofV (lv := [(0, .ref o)]) (by decide +kernel) (Nat.le_of_ble_eq_true rfl) rfl ?_
  refine zV_iconst (n := 0) dX4_runMany_0 ?_
  refine zV_istore_n (lv' := [(0, .ref o), (1, .int (jI (0)))]) 1 dX4_runMany_1 rfl (by decide) rfl rfl ?_
  refine zV_iconst (n := 0) dX4_runMany_2 ?_
  refine zV_istore_n (lv' := [(0, .ref o), (1, .int (jI (0))), (2, .int (jI (0)))]) 2 dX4_runMany_3 rfl (by decide) rfl rfl ?_
  have key : ∀ f i : Nat, ∀ a : Int, i + f = qN P k → zV G zX4_runMany 1 4 [(0, .ref o), (1, .int (jI ((a : Int)))), (2, .int (jI (((i : Nat) : Int))))] [] h (zJ h (some (.int (jI (fU (fun i a => a + bI (qD P k i = 0 ∧ qR P k i = 0)) f i a))))) := by
    intro f
    induction f with
    | zero =>
      intro i a h1
      refine zV_iload_n 2 dX4_runMany_4 rfl rfl ?_
      refine zV_aload_n 0 dX4_runMany_5 rfl rfl (Or.inr ⟨_, rfl⟩) ?_
      refine zV_tgetf (ci := 3) (q := (RX4, TX4, 27)) 14 dX4_runMany_6 q1931 (md_k hM) rfl (by decide) rfl (by decide) ?_
      refine zV.eq (show ((zI h o 14).toInt : Int) = ((qN P k : Nat) : Int) from hS.1) ?_
      refine zV_jcmp_ge 46 dX4_runMany_9 rfl ⟨by omega, by omega⟩ ⟨by omega, by omega⟩ (fun c1 => ?_) (fun c_ => absurd c_ (by omega))
      refine zV_iload_n 1 dX4_runMany_46 rfl rfl ?_
      exact zV_ireturn dX4_runMany_47 rfl rfl ⟨rfl, rfl⟩
    | succ f ih =>
      intro i a h1
      have hq := q_b hw (k := k) (j := i) (by omega)
      have hj := hS.2 i (by omega)
      refine zV_iload_n 2 dX4_runMany_4 rfl rfl ?_
      refine zV_aload_n 0 dX4_runMany_5 rfl rfl (Or.inr ⟨_, rfl⟩) ?_
      refine zV_tgetf (ci := 3) (q := (RX4, TX4, 27)) 14 dX4_runMany_6 q1931 (md_k hM) rfl (by decide) rfl (by decide) ?_
      refine zV.eq (show ((zI h o 14).toInt : Int) = ((qN P k : Nat) : Int) from hS.1) ?_
      refine zV_jcmp_ge 46 dX4_runMany_9 rfl ⟨by omega, by omega⟩ ⟨by omega, by omega⟩ (fun c_ => absurd c_ (by omega)) (fun c1 => ?_)
      refine zV_iload_n 1 dX4_runMany_12 rfl rfl ?_
      refine zV_aload_n 0 dX4_runMany_13 rfl rfl (Or.inr ⟨_, rfl⟩) ?_
      refine zV_getf (v := .ref (o + 11)) (ci := 3) (q := (RX4, TX4, 27)) 13 dX4_runMany_14 q1930 (md_k hM) rfl (by decide) (congrArg va_rf (md_r_distance hM)) (by decide) ?_
      refine zV_iload_n 2 dX4_runMany_17 rfl rfl ?_
      refine zV_tiald i 64 dX4_runMany_18 (md_k_distance hM) (md_z_distance hM) (by omega) (by omega) (by omega) ?_
      refine zV.eq (show ((zI h (o + 11) i).toInt : Int) = ((qD P k i : Nat) : Int) from hj.2.2) ?_
      refine zV_jif_ne 34 dX4_runMany_19 rfl ⟨by omega, by omega⟩ (fun c2 => ?_) (fun c2 => ?_)
      · refine zV_iconst (n := 0) dX4_runMany_34 ?_
        refine zV.eq (show (0 : Int) = bI (qD P k i = 0 ∧ qR P k i = 0) from (bI_f (fun z => by have := z.1; omega)).symm) ?_
        refine zc_S (y' := zX4_bit) (as := [.int (jI (bI (qD P k i = 0 ∧ qR P k i = 0)))]) (rest := [.int (jI ((a : Int)))]) bX4_bit dX4_runMany_35 q2180 q2181 (c_X4_bit _) rfl rfl (by decide) (Nat.le_of_ble_eq_true rfl) (zk_J1 ?_)
        refine zV_jadd dX4_runMany_38 ?_
        refine zV_istore_n (lv' := [(0, .ref o), (1, .int (jI ((a : Int) + (bI (qD P k i = 0 ∧ qR P k i = 0))))), (2, .int (jI (((i : Nat) : Int))))]) 1 dX4_runMany_39 rfl (by decide) rfl rfl ?_
        refine zV_jinc (lv' := [(0, .ref o), (1, .int (jI ((a : Int) + (bI (qD P k i = 0 ∧ qR P k i = 0))))), (2, .int (jI (((i : Nat) : Int) + 1)))]) dX4_runMany_40 rfl (by decide) rfl rfl ?_
        refine zV_goto 4 dX4_runMany_43 rfl ?_
        rw [show (((i : Nat) : Int) + 1 : Int) = ((i + 1 : Nat) : Int) from by omega]
        exact ih (i + 1) _ (by omega)
      · refine zV_aload_n 0 dX4_runMany_22 rfl rfl (Or.inr ⟨_, rfl⟩) ?_
        refine zV_iload_n 2 dX4_runMany_23 rfl rfl ?_
        refine zc_V (y' := zX4_isInRun) (as := [.int (jI (((i : Nat) : Int)))]) (rest := [.int (jI ((a : Int)))]) (ci := 3) (q := (RX4, TX4, 27)) bX4_isInRun dX4_runMany_24 q2357 q2359 qs107 (md_k hM) rfl (c_X4_isInRun hM hw hS (Nat.le_refl _) i (by omega)) rfl rfl (by decide) (Nat.le_of_ble_eq_true rfl) (by decide) (zk_J1 ?_)
        refine zV_jif_ne 34 dX4_runMany_27 rfl ⟨by omega, by omega⟩ (fun c3 => ?_) (fun c3 => ?_)
        · refine zV_iconst (n := 0) dX4_runMany_34 ?_
          refine zV.eq (show (0 : Int) = bI (qD P k i = 0 ∧ qR P k i = 0) from (bI_f (fun z => by have := z.2; omega)).symm) ?_
          refine zc_S (y' := zX4_bit) (as := [.int (jI (bI (qD P k i = 0 ∧ qR P k i = 0)))]) (rest := [.int (jI ((a : Int)))]) bX4_bit dX4_runMany_35 q2180 q2181 (c_X4_bit _) rfl rfl (by decide) (Nat.le_of_ble_eq_true rfl) (zk_J1 ?_)
          refine zV_jadd dX4_runMany_38 ?_
          refine zV_istore_n (lv' := [(0, .ref o), (1, .int (jI ((a : Int) + (bI (qD P k i = 0 ∧ qR P k i = 0))))), (2, .int (jI (((i : Nat) : Int))))]) 1 dX4_runMany_39 rfl (by decide) rfl rfl ?_
          refine zV_jinc (lv' := [(0, .ref o), (1, .int (jI ((a : Int) + (bI (qD P k i = 0 ∧ qR P k i = 0))))), (2, .int (jI (((i : Nat) : Int) + 1)))]) dX4_runMany_40 rfl (by decide) rfl rfl ?_
          refine zV_goto 4 dX4_runMany_43 rfl ?_
          rw [show (((i : Nat) : Int) + 1 : Int) = ((i + 1 : Nat) : Int) from by omega]
          exact ih (i + 1) _ (by omega)
        · refine zV_iconst (n := 1) dX4_runMany_30 ?_
          refine zV_goto 35 dX4_runMany_31 rfl ?_
          refine zV.eq (show (1 : Int) = bI (qD P k i = 0 ∧ qR P k i = 0) from (bI_t ⟨by omega, by omega⟩).symm) ?_
          refine zc_S (y' := zX4_bit) (as := [.int (jI (bI (qD P k i = 0 ∧ qR P k i = 0)))]) (rest := [.int (jI ((a : Int)))]) bX4_bit dX4_runMany_35 q2180 q2181 (c_X4_bit _) rfl rfl (by decide) (Nat.le_of_ble_eq_true rfl) (zk_J1 ?_)
          refine zV_jadd dX4_runMany_38 ?_
          refine zV_istore_n (lv' := [(0, .ref o), (1, .int (jI ((a : Int) + (bI (qD P k i = 0 ∧ qR P k i = 0))))), (2, .int (jI (((i : Nat) : Int))))]) 1 dX4_runMany_39 rfl (by decide) rfl rfl ?_
          refine zV_jinc (lv' := [(0, .ref o), (1, .int (jI ((a : Int) + (bI (qD P k i = 0 ∧ qR P k i = 0))))), (2, .int (jI (((i : Nat) : Int) + 1)))]) dX4_runMany_40 rfl (by decide) rfl rfl ?_
          refine zV_goto 4 dX4_runMany_43 rfl ?_
          rw [show (((i : Nat) : Int) + 1 : Int) = ((i + 1 : Nat) : Int) from by omega]
          exact ih (i + 1) _ (by omega)
  exact key (qN P k) 0 0 (by omega)
theorem c_X4_againMany (hM : MdL h o) (hP : gI h (o + 1) = P) (hw : pWf P) {k : Nat} (hS : PsM h o P k (qN P k)) : zM G zX4_againMany 1 [.ref o] h (zJ h (some (.int (jI (agN P k))))) := by
  have hN := qN_le hw k
  refine zM.ofV (lv := [(0, .ref o)]) (by decide +kernel) (Nat.le_of_ble_eq_true rfl) rfl ?_
  refine zV_iconst (n := 0) dX4_againMany_0 ?_
  refine zV_istore_n (lv' := [(0, .ref o), (1, .int (jI (0)))]) 1 dX4_againMany_1 rfl (by decide) rfl rfl ?_
  refine zV_iconst (n := 0) dX4_againMany_2 ?_
  refine zV_istore_n (lv' := [(0, .ref o), (1, .int (jI (0))), (2, .int (jI (0)))]) 2 dX4_againMany_3 rfl (by decide) rfl rfl ?_
  have key : ∀ f i : Nat, ∀ a : Int, i + f = qN P k → zV G zX4_againMany 1 4 [(0, .ref o), (1, .int (jI ((a : Int)))), (2, .int (jI (((i : Nat) : Int))))] [] h (zJ h (some (.int (jI (fU (fun i a => a + bI (0 < qD P k i ∧ qD P k i = qL P k i)) f i a))))) := by
    intro f
    induction f with
    | zero =>
      intro i a h1
      refine zV_iload_n 2 dX4_againMany_4 rfl rfl ?_
      refine zV_aload_n 0 dX4_againMany_5 rfl rfl (Or.inr ⟨_, rfl⟩) ?_
      refine zV_tgetf (ci := 3) (q := (RX4, TX4, 27)) 14 dX4_againMany_6 q1931 (md_k hM) rfl (by decide) rfl (by decide) ?_
      refine zV.eq (show ((zI h o 14).toInt : Int) = ((qN P k : Nat) : Int) from hS.1) ?_
      refine zV_jcmp_ge 52 dX4_againMany_9 rfl ⟨by omega, by omega⟩ ⟨by omega, by omega⟩ (fun c1 => ?_) (fun c_ => absurd c_ (by omega))
      refine zV_iload_n 1 dX4_againMany_52 rfl rfl ?_
      exact zV_ireturn dX4_againMany_53 rfl rfl ⟨rfl, rfl⟩
    | succ f ih =>
      intro i a h1
      have hq := q_b hw (k := k) (j := i) (by omega)
      have hj := hS.2 i (by omega)
      refine zV_iload_n 2 dX4_againMany_4 rfl rfl ?_
      refine zV_aload_n 0 dX4_againMany_5 rfl rfl (Or.inr ⟨_, rfl⟩) ?_
      refine zV_tgetf (ci := 3) (q := (RX4, TX4, 27)) 14 dX4_againMany_6 q1931 (md_k hM) rfl (by decide) rfl (by decide) ?_
      refine zV.eq (show ((zI h o 14).toInt : Int) = ((qN P k : Nat) : Int) from hS.1) ?_
      refine zV_jcmp_ge 52 dX4_againMany_9 rfl ⟨by omega, by omega⟩ ⟨by omega, by omega⟩ (fun c_ => absurd c_ (by omega)) (fun c1 => ?_)
      refine zV_iload_n 1 dX4_againMany_12 rfl rfl ?_
      refine zV_aload_n 0 dX4_againMany_13 rfl rfl (Or.inr ⟨_, rfl⟩) ?_
      refine zV_getf (v := .ref (o + 11)) (ci := 3) (q := (RX4, TX4, 27)) 13 dX4_againMany_14 q1930 (md_k hM) rfl (by decide) (congrArg va_rf (md_r_distance hM)) (by decide) ?_
      refine zV_iload_n 2 dX4_againMany_17 rfl rfl ?_
      refine zV_tiald i 64 dX4_againMany_18 (md_k_distance hM) (md_z_distance hM) (by omega) (by omega) (by omega) ?_
      refine zV.eq (show ((zI h (o + 11) i).toInt : Int) = ((qD P k i : Nat) : Int) from hj.2.2) ?_
      refine zV_jif_le 40 dX4_againMany_19 rfl ⟨by omega, by omega⟩ (fun c2 => ?_) (fun c2 => ?_)
      · refine zV_iconst (n := 0) dX4_againMany_40 ?_
        refine zV.eq (show (0 : Int) = bI (0 < qD P k i ∧ qD P k i = qL P k i) from (bI_f (fun z => by have := z.1; omega)).symm) ?_
        refine zc_S (y' := zX4_bit) (as := [.int (jI (bI (0 < qD P k i ∧ qD P k i = qL P k i)))]) (rest := [.int (jI ((a : Int)))]) bX4_bit dX4_againMany_41 q2180 q2181 (c_X4_bit _) rfl rfl (by decide) (Nat.le_of_ble_eq_true rfl) (zk_J1 ?_)
        refine zV_jadd dX4_againMany_44 ?_
        refine zV_istore_n (lv' := [(0, .ref o), (1, .int (jI ((a : Int) + (bI (0 < qD P k i ∧ qD P k i = qL P k i))))), (2, .int (jI (((i : Nat) : Int))))]) 1 dX4_againMany_45 rfl (by decide) rfl rfl ?_
        refine zV_jinc (lv' := [(0, .ref o), (1, .int (jI ((a : Int) + (bI (0 < qD P k i ∧ qD P k i = qL P k i))))), (2, .int (jI (((i : Nat) : Int) + 1)))]) dX4_againMany_46 rfl (by decide) rfl rfl ?_
        refine zV_goto 4 dX4_againMany_49 rfl ?_
        rw [show (((i : Nat) : Int) + 1 : Int) = ((i + 1 : Nat) : Int) from by omega]
        exact ih (i + 1) _ (by omega)
      · refine zV_aload_n 0 dX4_againMany_22 rfl rfl (Or.inr ⟨_, rfl⟩) ?_
        refine zV_getf (v := .ref (o + 11)) (ci := 3) (q := (RX4, TX4, 27)) 13 dX4_againMany_23 q1930 (md_k hM) rfl (by decide) (congrArg va_rf (md_r_distance hM)) (by decide) ?_
        refine zV_iload_n 2 dX4_againMany_26 rfl rfl ?_
        refine zV_tiald i 64 dX4_againMany_27 (md_k_distance hM) (md_z_distance hM) (by omega) (by omega) (by omega) ?_
        refine zV.eq (show ((zI h (o + 11) i).toInt : Int) = ((qD P k i : Nat) : Int) from hj.2.2) ?_
        refine zV_aload_n 0 dX4_againMany_28 rfl rfl (Or.inr ⟨_, rfl⟩) ?_
        refine zV_iload_n 2 dX4_againMany_29 rfl rfl ?_
        refine zc_V (y' := zX4_lastOf) (as := [.int (jI (((i : Nat) : Int)))]) (rest := [.int (jI (((qD P k i : Nat) : Int))), .int (jI ((a : Int)))]) (ci := 3) (q := (RX4, TX4, 27)) bX4_lastOf dX4_againMany_30 q2353 q2355 qs106 (md_k hM) rfl (c_X4_lastOf hM hw hS (Nat.le_refl _) i (by omega)) rfl rfl (by decide) (Nat.le_of_ble_eq_true rfl) (by decide) (zk_J1 ?_)
        refine zV_jcmp_ne 40 dX4_againMany_33 rfl ⟨by omega, by omega⟩ ⟨by omega, by omega⟩ (fun c3 => ?_) (fun c3 => ?_)
        · refine zV_iconst (n := 0) dX4_againMany_40 ?_
          refine zV.eq (show (0 : Int) = bI (0 < qD P k i ∧ qD P k i = qL P k i) from (bI_f (fun z => by have := z.2; omega)).symm) ?_
          refine zc_S (y' := zX4_bit) (as := [.int (jI (bI (0 < qD P k i ∧ qD P k i = qL P k i)))]) (rest := [.int (jI ((a : Int)))]) bX4_bit dX4_againMany_41 q2180 q2181 (c_X4_bit _) rfl rfl (by decide) (Nat.le_of_ble_eq_true rfl) (zk_J1 ?_)
          refine zV_jadd dX4_againMany_44 ?_
          refine zV_istore_n (lv' := [(0, .ref o), (1, .int (jI ((a : Int) + (bI (0 < qD P k i ∧ qD P k i = qL P k i))))), (2, .int (jI (((i : Nat) : Int))))]) 1 dX4_againMany_45 rfl (by decide) rfl rfl ?_
          refine zV_jinc (lv' := [(0, .ref o), (1, .int (jI ((a : Int) + (bI (0 < qD P k i ∧ qD P k i = qL P k i))))), (2, .int (jI (((i : Nat) : Int) + 1)))]) dX4_againMany_46 rfl (by decide) rfl rfl ?_
          refine zV_goto 4 dX4_againMany_49 rfl ?_
          rw [show (((i : Nat) : Int) + 1 : Int) = ((i + 1 : Nat) : Int) from by omega]
          exact ih (i + 1) _ (by omega)
        · refine zV_iconst (n := 1) dX4_againMany_36 ?_
          refine zV_goto 41 dX4_againMany_37 rfl ?_
          refine zV.eq (show (1 : Int) = bI (0 < qD P k i ∧ qD P k i = qL P k i) from (bI_t ⟨by omega, by omega⟩).symm) ?_
          refine zc_S (y' := zX4_bit) (as := [.int (jI (bI (0 < qD P k i ∧ qD P k i = qL P k i)))]) (rest := [.int (jI ((a : Int)))]) bX4_bit dX4_againMany_41 q2180 q2181 (c_X4_bit _) rfl rfl (by decide) (Nat.le_of_ble_eq_true rfl) (zk_J1 ?_)
          refine zV_jadd dX4_againMany_44 ?_
          refine zV_istore_n (lv' := [(0, .ref o), (1, .int (jI ((a : Int) + (bI (0 < qD P k i ∧ qD P k i = qL P k i))))), (2, .int (jI (((i : Nat) : Int))))]) 1 dX4_againMany_45 rfl (by decide) rfl rfl ?_
          refine zV_jinc (lv' := [(0, .ref o), (1, .int (jI ((a : Int) + (bI (0 < qD P k i ∧ qD P k i = qL P k i))))), (2, .int (jI (((i : Nat) : Int) + 1)))]) dX4_againMany_46 rfl (by decide) rfl rfl ?_
          refine zV_goto 4 dX4_againMany_49 rfl ?_
          rw [show (((i : Nat) : Int) + 1 : Int) = ((i + 1 : Nat) : Int) from by omega]
          exact ih (i + 1) _ (by omega)
  exact key (qN P k) 0 0 (by omega)
theorem c_X4_dearest (hM : MdL h o) (hP : gI h (o + 1) = P) (hw : pWf P) {k : Nat} (hS : PsM h o P k (qN P k)) : zM G zX4_dearest 3 [.ref o] h (zJ h (some (.int (jI (deN P k))))) := by
  have hN := qN_le hw k
  refine zM.ofV (lv := [(0, .ref o)]) (by decide +kernel) (Nat.le_of_ble_eq_true rfl) rfl ?_
  refine zV_iconst (n := 0) dX4_dearest_0 ?_
  refine zV_istore_n (lv' := [(0, .ref o), (1, .int (jI (0)))]) 1 dX4_dearest_1 rfl (by decide) rfl rfl ?_
  refine zV_iconst (n := 0) dX4_dearest_2 ?_
  refine zV_istore_n (lv' := [(0, .ref o), (1, .int (jI (0))), (2, .int (jI (0)))]) 2 dX4_dearest_3 rfl (by decide) rfl rfl ?_
  have key : ∀ f i : Nat, ∀ a : Int, i + f = qN P k → 0 ≤ a → a ≤ 600 → zV G zX4_dearest 3 4 [(0, .ref o), (1, .int (jI ((a : Int)))), (2, .int (jI (((i : Nat) : Int))))] [] h (zJ h (some (.int (jI (fU (fun i a => max a (qC P k i)) f i a))))) := by
    intro f
    induction f with
    | zero =>
      intro i a h1 h2 h3
      refine zV_iload_n 2 dX4_dearest_4 rfl rfl ?_
      refine zV_aload_n 0 dX4_dearest_5 rfl rfl (Or.inr ⟨_, rfl⟩) ?_
      refine zV_tgetf (ci := 3) (q := (RX4, TX4, 27)) 14 dX4_dearest_6 q1931 (md_k hM) rfl (by decide) rfl (by decide) ?_
      refine zV.eq (show ((zI h o 14).toInt : Int) = ((qN P k : Nat) : Int) from hS.1) ?_
      refine zV_jcmp_ge 28 dX4_dearest_9 rfl ⟨by omega, by omega⟩ ⟨by omega, by omega⟩ (fun c1 => ?_) (fun c_ => absurd c_ (by omega))
      refine zV_iload_n 1 dX4_dearest_28 rfl rfl ?_
      exact zV_ireturn dX4_dearest_29 rfl rfl ⟨rfl, rfl⟩
    | succ f ih =>
      intro i a h1 h2 h3
      have hq := q_b hw (k := k) (j := i) (by omega)
      have hj := hS.2 i (by omega)
      refine zV_iload_n 2 dX4_dearest_4 rfl rfl ?_
      refine zV_aload_n 0 dX4_dearest_5 rfl rfl (Or.inr ⟨_, rfl⟩) ?_
      refine zV_tgetf (ci := 3) (q := (RX4, TX4, 27)) 14 dX4_dearest_6 q1931 (md_k hM) rfl (by decide) rfl (by decide) ?_
      refine zV.eq (show ((zI h o 14).toInt : Int) = ((qN P k : Nat) : Int) from hS.1) ?_
      refine zV_jcmp_ge 28 dX4_dearest_9 rfl ⟨by omega, by omega⟩ ⟨by omega, by omega⟩ (fun c_ => absurd c_ (by omega)) (fun c1 => ?_)
      refine zV_iload_n 1 dX4_dearest_12 rfl rfl ?_
      refine zV_aload_n 0 dX4_dearest_13 rfl rfl (Or.inr ⟨_, rfl⟩) ?_
      refine zV_iload_n 2 dX4_dearest_14 rfl rfl ?_
      have hqc := qC_b hw (k := k) (i := i) (by omega)
      refine zc_V (y' := zX4_stepCost) (as := [.int (jI (((i : Nat) : Int)))]) (rest := [.int (jI ((a : Int)))]) (ci := 3) (q := (RX4, TX4, 27)) bX4_stepCost dX4_dearest_15 q2377 q2379 qs111 (md_k hM) rfl (c_X4_stepCost hM hP hw hS (Nat.le_refl _) i (by omega)) rfl rfl (by decide) (Nat.le_of_ble_eq_true rfl) (by decide) (zk_J1 ?_)
      refine zc_S (y' := zX4_larger) (as := [.int (jI ((a : Int))), .int (jI (qC P k i))]) (rest := []) bX4_larger dX4_dearest_18 q2169 q2170 (c_X4_larger a _ ⟨by omega, by omega⟩ ⟨by omega, by omega⟩) rfl rfl (by decide) (Nat.le_of_ble_eq_true rfl) (zk_J1 ?_)
      refine zV_istore_n (lv' := [(0, .ref o), (1, .int (jI (max a (qC P k i)))), (2, .int (jI (((i : Nat) : Int))))]) 1 dX4_dearest_21 rfl (by decide) rfl rfl ?_
      refine zV_jinc (lv' := [(0, .ref o), (1, .int (jI (max a (qC P k i)))), (2, .int (jI (((i : Nat) : Int) + 1)))]) dX4_dearest_22 rfl (by decide) rfl rfl ?_
      refine zV_goto 4 dX4_dearest_25 rfl ?_
      rw [show (((i : Nat) : Int) + 1 : Int) = ((i + 1 : Nat) : Int) from by omega]
      exact ih (i + 1) _ (by omega) (by omega) (by omega)
  exact key (qN P k) 0 0 (by omega) (by decide) (by decide)
theorem c_X4_copiedPlaces (hM : MdL h o) (hP : gI h (o + 1) = P) (hw : pWf P) {k : Nat} (hS : PsM h o P k (qN P k)) : zM G zX4_copiedPlaces 1 [.ref o] h (zJ h (some (.int (jI (cpP P k))))) := by
  have hN := qN_le hw k
  refine zM.ofV (lv := [(0, .ref o)]) (by decide +kernel) (Nat.le_of_ble_eq_true rfl) rfl ?_
  refine zV_iconst (n := 0) dX4_copiedPlaces_0 ?_
  refine zV_istore_n (lv' := [(0, .ref o), (1, .int (jI (0)))]) 1 dX4_copiedPlaces_1 rfl (by decide) rfl rfl ?_
  refine zV_iconst (n := 0) dX4_copiedPlaces_2 ?_
  refine zV_istore_n (lv' := [(0, .ref o), (1, .int (jI (0))), (2, .int (jI (0)))]) 2 dX4_copiedPlaces_3 rfl (by decide) rfl rfl ?_
  have key : ∀ f i : Nat, ∀ a : Int, i + f = qN P k → zV G zX4_copiedPlaces 1 4 [(0, .ref o), (1, .int (jI ((a : Int)))), (2, .int (jI (((i : Nat) : Int))))] [] h (zJ h (some (.int (jI (fU (fun i a => a + (if 0 < qD P k i then (qG P k i : Int) else 0)) f i a))))) := by
    intro f
    induction f with
    | zero =>
      intro i a h1
      refine zV_iload_n 2 dX4_copiedPlaces_4 rfl rfl ?_
      refine zV_aload_n 0 dX4_copiedPlaces_5 rfl rfl (Or.inr ⟨_, rfl⟩) ?_
      refine zV_tgetf (ci := 3) (q := (RX4, TX4, 27)) 14 dX4_copiedPlaces_6 q1931 (md_k hM) rfl (by decide) rfl (by decide) ?_
      refine zV.eq (show ((zI h o 14).toInt : Int) = ((qN P k : Nat) : Int) from hS.1) ?_
      refine zV_jcmp_ge 40 dX4_copiedPlaces_9 rfl ⟨by omega, by omega⟩ ⟨by omega, by omega⟩ (fun c1 => ?_) (fun c_ => absurd c_ (by omega))
      refine zV_iload_n 1 dX4_copiedPlaces_40 rfl rfl ?_
      exact zV_ireturn dX4_copiedPlaces_41 rfl rfl ⟨rfl, rfl⟩
    | succ f ih =>
      intro i a h1
      have hq := q_b hw (k := k) (j := i) (by omega)
      have hj := hS.2 i (by omega)
      refine zV_iload_n 2 dX4_copiedPlaces_4 rfl rfl ?_
      refine zV_aload_n 0 dX4_copiedPlaces_5 rfl rfl (Or.inr ⟨_, rfl⟩) ?_
      refine zV_tgetf (ci := 3) (q := (RX4, TX4, 27)) 14 dX4_copiedPlaces_6 q1931 (md_k hM) rfl (by decide) rfl (by decide) ?_
      refine zV.eq (show ((zI h o 14).toInt : Int) = ((qN P k : Nat) : Int) from hS.1) ?_
      refine zV_jcmp_ge 40 dX4_copiedPlaces_9 rfl ⟨by omega, by omega⟩ ⟨by omega, by omega⟩ (fun c_ => absurd c_ (by omega)) (fun c1 => ?_)
      refine zV_iload_n 1 dX4_copiedPlaces_12 rfl rfl ?_
      refine zV_aload_n 0 dX4_copiedPlaces_13 rfl rfl (Or.inr ⟨_, rfl⟩) ?_
      refine zV_getf (v := .ref (o + 11)) (ci := 3) (q := (RX4, TX4, 27)) 13 dX4_copiedPlaces_14 q1930 (md_k hM) rfl (by decide) (congrArg va_rf (md_r_distance hM)) (by decide) ?_
      refine zV_iload_n 2 dX4_copiedPlaces_17 rfl rfl ?_
      refine zV_tiald i 64 dX4_copiedPlaces_18 (md_k_distance hM) (md_z_distance hM) (by omega) (by omega) (by omega) ?_
      refine zV.eq (show ((zI h (o + 11) i).toInt : Int) = ((qD P k i : Nat) : Int) from hj.2.2) ?_
      refine zV_jif_le 31 dX4_copiedPlaces_19 rfl ⟨by omega, by omega⟩ (fun c2 => ?_) (fun c2 => ?_)
      · refine zV_iconst (n := 0) dX4_copiedPlaces_31 ?_
        refine zV_jadd dX4_copiedPlaces_32 ?_
        refine zV_istore_n (lv' := [(0, .ref o), (1, .int (jI ((a : Int) + 0))), (2, .int (jI (((i : Nat) : Int))))]) 1 dX4_copiedPlaces_33 rfl (by decide) rfl rfl ?_
        refine zV_jinc (lv' := [(0, .ref o), (1, .int (jI ((a : Int) + 0))), (2, .int (jI (((i : Nat) : Int) + 1)))]) dX4_copiedPlaces_34 rfl (by decide) rfl rfl ?_
        refine zV_goto 4 dX4_copiedPlaces_37 rfl ?_
        rw [show ((a : Int) + 0 : Int) = a + (if 0 < qD P k i then (qG P k i : Int) else 0) from by rw [if_neg (by omega)]]
        rw [show (((i : Nat) : Int) + 1 : Int) = ((i + 1 : Nat) : Int) from by omega]
        exact ih (i + 1) _ (by omega)
      · refine zV_aload_n 0 dX4_copiedPlaces_22 rfl rfl (Or.inr ⟨_, rfl⟩) ?_
        refine zV_getf (v := .ref (o + 10)) (ci := 3) (q := (RX4, TX4, 27)) 12 dX4_copiedPlaces_23 q1929 (md_k hM) rfl (by decide) (congrArg va_rf (md_r_length hM)) (by decide) ?_
        refine zV_iload_n 2 dX4_copiedPlaces_26 rfl rfl ?_
        refine zV_tiald i 64 dX4_copiedPlaces_27 (md_k_length hM) (md_z_length hM) (by omega) (by omega) (by omega) ?_
        refine zV.eq (show ((zI h (o + 10) i).toInt : Int) = ((qG P k i : Nat) : Int) from hj.2.1) ?_
        refine zV_goto 32 dX4_copiedPlaces_28 rfl ?_
        refine zV_jadd dX4_copiedPlaces_32 ?_
        refine zV_istore_n (lv' := [(0, .ref o), (1, .int (jI ((a : Int) + ((qG P k i : Nat) : Int)))), (2, .int (jI (((i : Nat) : Int))))]) 1 dX4_copiedPlaces_33 rfl (by decide) rfl rfl ?_
        refine zV_jinc (lv' := [(0, .ref o), (1, .int (jI ((a : Int) + ((qG P k i : Nat) : Int)))), (2, .int (jI (((i : Nat) : Int) + 1)))]) dX4_copiedPlaces_34 rfl (by decide) rfl rfl ?_
        refine zV_goto 4 dX4_copiedPlaces_37 rfl ?_
        rw [show ((a : Int) + ((qG P k i : Nat) : Int) : Int) = a + (if 0 < qD P k i then (qG P k i : Int) else 0) from by rw [if_pos (by omega)]]
        rw [show (((i : Nat) : Int) + 1 : Int) = ((i + 1 : Nat) : Int) from by omega]
        exact ih (i + 1) _ (by omega)
  exact key (qN P k) 0 0 (by omega)
theorem c_X4_steps (hM : MdL h o) (hP : gI h (o + 1) = P) (hw : pWf P) (a : Int) (ha : jr a) : zM G zX4_steps 7 [.ref o, .int (jI a)] h (zAn o (ma1 (0 ≤ a ∧ a ≤ 3)) ((qN P a.toNat : Nat) : Int) h) := by
  refine zM.ofV (lv := [(0, .ref o), (1, .int (jI (a)))]) (by decide +kernel) (Nat.le_of_ble_eq_true rfl) rfl ?_
  refine zV_aload_n 0 dX4_steps_0 rfl rfl (Or.inr ⟨_, rfl⟩) ?_
  refine zV_iload_n 1 dX4_steps_1 rfl rfl ?_
  refine zc_S (y' := zX4_isKind) (as := [.int (jI (a))]) (rest := [.ref o]) bX4_isKind dX4_steps_2 q2310 q2311 (c_X4_isKind a ha) rfl rfl (by decide) (Nat.le_of_ble_eq_true rfl) (zk_J1 ?_)
  refine zc_V (y' := zX4_mayOne) (as := [.int (jI (bI (0 ≤ a ∧ a ≤ 3)))]) (rest := []) (ci := 3) (q := (RX4, TX4, 27)) bX4_mayOne dX4_steps_5 q2141 q2143 qs69 (md_k hM) rfl (c_X4_mayOne hM (0 ≤ a ∧ a ≤ 3)) rfl rfl (by decide) (Nat.le_of_ble_eq_true rfl) (by decide) (zk_I (fun z h1 ⟨ez, i0⟩ _ => ?_))
  subst ez
  have hM1 : MdL h1 o := hM.ch i0.1
  have hP1 : gI h1 (o + 1) = P := (i0.1.row (by simp)).trans hP
  by_cases cm : 0 ≤ a ∧ a ≤ 3
  · refine zV.eq (show (bI (0 ≤ a ∧ a ≤ 3) : Int) = 1 from bI_t cm) ?_
    refine zV_jif_ne 13 dX4_steps_8 rfl ⟨by decide, by decide⟩ (fun _ => ?_) (fun c_ => absurd c_ (by decide))
    obtain ⟨k, rfl⟩ : ∃ n_ : Nat, a = (n_ : Int) := ⟨(a).toNat, by omega⟩
    refine zV_aload_n 0 dX4_steps_13 rfl rfl (Or.inr ⟨_, rfl⟩) ?_
    refine zV_iload_n 1 dX4_steps_14 rfl rfl ?_
    refine zc_V (y' := zX4_laysParse) (as := [.int (jI (((k : Nat) : Int)))]) (rest := []) (ci := 3) (q := (RX4, TX4, 27)) bX4_laysParse dX4_steps_15 q2313 q2315 qs97 (md_k hM1) rfl (c_X4_laysParse hM1 hP1 hw k (by omega)) rfl rfl (by decide) (Nat.le_of_ble_eq_true rfl) (by decide) (zk_V (fun h2 ⟨j1, hS, j3⟩ _ => ?_))
    have hM2 : MdL h2 o := hM1.ch j1
    have hP2 : gI h2 (o + 1) = P := (j1.row (by simp)).trans hP1
    refine zV_aload_n 0 dX4_steps_18 rfl rfl (Or.inr ⟨_, rfl⟩) ?_
    refine zV_tgetf (ci := 3) (q := (RX4, TX4, 27)) 14 dX4_steps_19 q1931 (md_k hM2) rfl (by decide) rfl (by decide) ?_
    refine zV.eq (show ((zI h2 o 14).toInt : Int) = ((qN P k : Nat) : Int) from hS.1) ?_
    exact zV_ireturn dX4_steps_22 rfl rfl ⟨_, rfl, i0.go j1 (by simp) (by simp) (by simp), fun _ => rfl⟩
  · refine zV.eq (show (bI (0 ≤ a ∧ a ≤ 3) : Int) = 0 from bI_f cm) ?_
    refine zV_jif_ne 13 dX4_steps_8 rfl ⟨by decide, by decide⟩ (fun c_ => absurd c_ (by decide)) (fun _ => ?_)
    refine zV_iconst (n := 0) dX4_steps_11 ?_
    exact zV_ireturn dX4_steps_12 rfl rfl ⟨_, rfl, i0.go0, fun e => absurd e (ma1_ne cm)⟩
theorem c_X4_laidSteps (hM : MdL h o) (hP : gI h (o + 1) = P) (hw : pWf P) (k : Nat) (hk : k < 4) : zM G zX4_laidSteps 7 [.ref o, .int (jI (k : Int))] h (zOkI (fun z h1 => z = ((qN P k : Nat) : Int) ∧ zPL o h h1 ∧ PsM h1 o P k (qN P k))) := by
  refine zM.ofV (lv := [(0, .ref o), (1, .int (jI (((k : Nat) : Int))))]) (by decide +kernel) (Nat.le_of_ble_eq_true rfl) rfl ?_
  have ha : jr ((k : Nat) : Int) := ⟨by omega, by omega⟩
  refine zV_iload_n 1 dX4_laidSteps_0 rfl rfl ?_
  refine zc_S (y' := zX4_isKind) (as := [.int (jI (((k : Nat) : Int)))]) (rest := []) bX4_isKind dX4_laidSteps_1 q2310 q2311 (c_X4_isKind ((k : Nat) : Int) ha) rfl rfl (by decide) (Nat.le_of_ble_eq_true rfl) (zk_J1 ?_)
  refine zV.eq (show (bI (0 ≤ ((k : Nat) : Int) ∧ ((k : Nat) : Int) ≤ 3) : Int) = 1 from bI_t ⟨by omega, by omega⟩) ?_
  refine zV_jif_ne 9 dX4_laidSteps_4 rfl ⟨by decide, by decide⟩ (fun _ => ?_) (fun c_ => absurd c_ (by decide))
  refine zV_aload_n 0 dX4_laidSteps_9 rfl rfl (Or.inr ⟨_, rfl⟩) ?_
  refine zV_iload_n 1 dX4_laidSteps_10 rfl rfl ?_
  refine zc_V (y' := zX4_laysParse) (as := [.int (jI (((k : Nat) : Int)))]) (rest := []) (ci := 3) (q := (RX4, TX4, 27)) bX4_laysParse dX4_laidSteps_11 q2313 q2315 qs97 (md_k hM) rfl (c_X4_laysParse hM hP hw k (by omega)) rfl rfl (by decide) (Nat.le_of_ble_eq_true rfl) (by decide) (zk_V (fun h2 ⟨j1, hS, j3⟩ _ => ?_))
  have hM2 : MdL h2 o := hM.ch j1
  have hP2 : gI h2 (o + 1) = P := (j1.row (by simp)).trans hP
  refine zV_aload_n 0 dX4_laidSteps_14 rfl rfl (Or.inr ⟨_, rfl⟩) ?_
  refine zV_tgetf (ci := 3) (q := (RX4, TX4, 27)) 14 dX4_laidSteps_15 q1931 (md_k hM2) rfl (by decide) rfl (by decide) ?_
  refine zV.eq (show ((zI h2 o 14).toInt : Int) = ((qN P k : Nat) : Int) from hS.1) ?_
  exact zV_ireturn dX4_laidSteps_18 rfl rfl ⟨_, rfl, rfl, j1, hS⟩
def vSt (P : pRow) (k i c : Nat) : Int := if c = 0 then ((qP P k i : Nat) : Int) else if c = 1 then ((qG P k i : Nat) : Int) else if c = 2 then ((qD P k i : Nat) : Int) else if c = 3 then qC P k i else ((qL P k i : Nat) : Int)
theorem zTd.go1 {o : Nat} {t : Int} {h h1 h2 : zH} (c : zPL o h h1) (i : zTd o t h1 h2) : zSc o h h2 ∧ gI h2 o 0 = t := ⟨(c.mono (by simp) (by simp)).tr (i.1.mono (by simp) (by simp)), i.2⟩
theorem zV.eq2 {y : zY} {d pc : Nat} {lv : List (Nat × Value)} {st : List Value} {v : Value} {Q : zO → zH → Prop} {e e' : Int} (he : e = e') (k : zV G y d pc lv (v :: .int (jI e') :: st) h Q) : zV G y d pc lv (v :: .int (jI e) :: st) h Q := by rw [he]; exact k
theorem c_X4_step (hM : MdL h o) (hP : gI h (o + 1) = P) (hw : pWf P) (a : Int) (ha : jr a) (b : Int) (hb : jr b) (c : Int) (hc : jr c) : zM G zX4_step 8 [.ref o, .int (jI a), .int (jI b), .int (jI c)] h (zAn o (ma2 ((0 ≤ a ∧ a ≤ 3) ∧ (0 ≤ c ∧ c ≤ 4)) (((0 ≤ a ∧ a ≤ 3) ∧ (0 ≤ c ∧ c ≤ 4)) ∧ (0 ≤ b ∧ b ≤ ((qN P a.toNat : Nat) : Int) - 1))) (vSt P a.toNat b.toNat c.toNat) h) := by
  obtain ⟨w0, w0b, w1, w1b, w2, w2b, w3, w3b, w4, w4b, w5, w5b, wp, wl, wn⟩ := id hw
  refine zM.ofV (lv := [(0, .ref o), (1, .int (jI (a))), (2, .int (jI (b))), (3, .int (jI (c)))]) (by decide +kernel) (Nat.le_of_ble_eq_true rfl) rfl ?_
  refine zV_iload_n 1 dX4_step_0 rfl rfl ?_
  refine zc_S (y' := zX4_isKind) (as := [.int (jI (a))]) (rest := []) bX4_isKind dX4_step_1 q2310 q2311 (c_X4_isKind a ha) rfl rfl (by decide) (Nat.le_of_ble_eq_true rfl) (zk_J1 ?_)
  by_cases c1 : 0 ≤ a ∧ a ≤ 3
  · refine zV.eq (show (bI (0 ≤ a ∧ a ≤ 3) : Int) = 1 from bI_t c1) ?_
    refine zV_jif_eq 20 dX4_step_4 rfl ⟨by decide, by decide⟩ (fun c_ => absurd c_ (by decide)) (fun _ => ?_)
    refine zV_iload_n 3 dX4_step_7 rfl rfl ?_
    refine zV_iconst (n := 0) dX4_step_8 ?_
    refine zV_iconst (n := 4) dX4_step_9 ?_
    refine zc_S (y' := zX4_isIn) (as := [.int (jI (c)), .int (jI (0)), .int (jI (4))]) (rest := []) bX4_isIn dX4_step_10 q2012 q2013 (c_X4_isIn (c) (0) (4) hc ⟨by decide, by decide⟩ ⟨by decide, by decide⟩) rfl rfl (by decide) (Nat.le_of_ble_eq_true rfl) (zk_J1 ?_)
    by_cases c2 : 0 ≤ c ∧ c ≤ 4
    · refine zV.eq (show (bI (0 ≤ c ∧ c ≤ 4) : Int) = 1 from bI_t c2) ?_
      refine zV_jif_eq 20 dX4_step_13 rfl ⟨by decide, by decide⟩ (fun c_ => absurd c_ (by decide)) (fun _ => ?_)
      refine zV_iconst (n := 1) dX4_step_16 ?_
      refine zV_goto 21 dX4_step_17 rfl ?_
      refine zV_istore (lv' := [(0, .ref o), (1, .int (jI (a))), (2, .int (jI (b))), (3, .int (jI (c))), (4, .int (jI (1)))]) dX4_step_21 (by decide) rfl rfl ?_
      refine zV_aload_n 0 dX4_step_23 rfl rfl (Or.inr ⟨_, rfl⟩) ?_
      refine zV_iload dX4_step_24 rfl ?_
      refine zV_iload dX4_step_26 rfl ?_
      refine zV_jif_eq 50 dX4_step_28 rfl ⟨by decide, by decide⟩ (fun c_ => absurd c_ (by decide)) (fun _ => ?_)
      obtain ⟨k, rfl⟩ : ∃ n_ : Nat, a = (n_ : Int) := ⟨(a).toNat, by omega⟩
      refine zV_iload_n 2 dX4_step_31 rfl rfl ?_
      refine zV_iconst (n := 0) dX4_step_32 ?_
      refine zV_aload_n 0 dX4_step_33 rfl rfl (Or.inr ⟨_, rfl⟩) ?_
      refine zV_iload_n 1 dX4_step_34 rfl rfl ?_
      refine zc_V (y' := zX4_laidSteps) (as := [.int (jI (((k : Nat) : Int)))]) (rest := [.int (jI (0)), .int (jI (b)), .int (jI (1)), .ref o]) (ci := 3) (q := (RX4, TX4, 27)) bX4_laidSteps dX4_step_35 q2373 q2375 qs110 (md_k hM) rfl (c_X4_laidSteps hM hP hw k (by omega)) rfl rfl (by decide) (Nat.le_of_ble_eq_true rfl) (by decide) (zk_I (fun z h2 ⟨ez, j1, hS⟩ _ => ?_))
      subst ez
      have hM2 : MdL h2 o := hM.ch j1
      have hP2 : gI h2 (o + 1) = P := (j1.row (by simp)).trans hP
      have hN := qN_le hw k
      refine zV_iconst (n := 1) dX4_step_38 ?_
      refine zV_jsub dX4_step_39 ?_
      refine zc_S (y' := zX4_isIn) (as := [.int (jI (b)), .int (jI (0)), .int (jI (((qN P k : Nat) : Int) - 1))]) (rest := [.int (jI (1)), .ref o]) bX4_isIn dX4_step_40 q2012 q2013 (c_X4_isIn (b) (0) (((qN P k : Nat) : Int) - 1) hb ⟨by decide, by decide⟩ ⟨by omega, by omega⟩) rfl rfl (by decide) (Nat.le_of_ble_eq_true rfl) (zk_J1 ?_)
      by_cases c3 : 0 ≤ b ∧ b ≤ ((qN P k : Nat) : Int) - 1
      · refine zV.eq (show (bI (0 ≤ b ∧ b ≤ ((qN P k : Nat) : Int) - 1) : Int) = 1 from bI_t c3) ?_
        refine zV_jif_eq 50 dX4_step_43 rfl ⟨by decide, by decide⟩ (fun c_ => absurd c_ (by decide)) (fun _ => ?_)
        refine zV_iconst (n := 1) dX4_step_46 ?_
        refine zV_goto 51 dX4_step_47 rfl ?_
        refine zV.eq (show (1 : Int) = bI (((0 ≤ ((k : Nat) : Int) ∧ ((k : Nat) : Int) ≤ 3) ∧ (0 ≤ c ∧ c ≤ 4)) ∧ (0 ≤ b ∧ b ≤ ((qN P ((k : Nat) : Int).toNat : Nat) : Int) - 1)) from (bI_t ⟨⟨c1, c2⟩, c3⟩).symm) ?_
        refine zV.eq2 (show (1 : Int) = bI ((0 ≤ ((k : Nat) : Int) ∧ ((k : Nat) : Int) ≤ 3) ∧ (0 ≤ c ∧ c ≤ 4)) from (bI_t ⟨c1, c2⟩).symm) ?_
        refine zc_V (y' := zX4_mayTwo) (as := [.int (jI (bI ((0 ≤ ((k : Nat) : Int) ∧ ((k : Nat) : Int) ≤ 3) ∧ (0 ≤ c ∧ c ≤ 4)))), .int (jI (bI (((0 ≤ ((k : Nat) : Int) ∧ ((k : Nat) : Int) ≤ 3) ∧ (0 ≤ c ∧ c ≤ 4)) ∧ (0 ≤ b ∧ b ≤ ((qN P ((k : Nat) : Int).toNat : Nat) : Int) - 1))))]) (rest := []) (ci := 3) (q := (RX4, TX4, 27)) bX4_mayTwo dX4_step_51 q2145 q2147 qs70 (md_k hM2) rfl (c_X4_mayTwo hM2 ((0 ≤ ((k : Nat) : Int) ∧ ((k : Nat) : Int) ≤ 3) ∧ (0 ≤ c ∧ c ≤ 4)) (((0 ≤ ((k : Nat) : Int) ∧ ((k : Nat) : Int) ≤ 3) ∧ (0 ≤ c ∧ c ≤ 4)) ∧ (0 ≤ b ∧ b ≤ ((qN P ((k : Nat) : Int).toNat : Nat) : Int) - 1))) rfl rfl (by decide) (Nat.le_of_ble_eq_true rfl) (by decide) (zk_I (fun z h1 ⟨ez, i0⟩ _ => ?_))
        subst ez
        have hM1 : MdL h1 o := hM2.ch i0.1
        have hP1 : gI h1 (o + 1) = P := (i0.1.row (by simp)).trans hP2
        by_cases cm : ((0 ≤ ((k : Nat) : Int) ∧ ((k : Nat) : Int) ≤ 3) ∧ (0 ≤ c ∧ c ≤ 4)) ∧ (((0 ≤ ((k : Nat) : Int) ∧ ((k : Nat) : Int) ≤ 3) ∧ (0 ≤ c ∧ c ≤ 4)) ∧ (0 ≤ b ∧ b ≤ ((qN P ((k : Nat) : Int).toNat : Nat) : Int) - 1))
        · refine zV.eq (show (bI (((0 ≤ ((k : Nat) : Int) ∧ ((k : Nat) : Int) ≤ 3) ∧ (0 ≤ c ∧ c ≤ 4)) ∧ (((0 ≤ ((k : Nat) : Int) ∧ ((k : Nat) : Int) ≤ 3) ∧ (0 ≤ c ∧ c ≤ 4)) ∧ (0 ≤ b ∧ b ≤ ((qN P ((k : Nat) : Int).toNat : Nat) : Int) - 1))) : Int) = 1 from bI_t cm) ?_
          refine zV_jif_ne 59 dX4_step_54 rfl ⟨by decide, by decide⟩ (fun _ => ?_) (fun c_ => absurd c_ (by decide))
          obtain ⟨i, rfl⟩ : ∃ n_ : Nat, b = (n_ : Int) := ⟨(b).toNat, by omega⟩
          obtain ⟨n, rfl⟩ : ∃ n_ : Nat, c = (n_ : Int) := ⟨(c).toNat, by omega⟩
          have hS1 := hS.ch i0.1 (by simp) (by simp) (by simp) (by simp)
          have hj := hS1.2 i (by omega)
          refine zV_iload_n 3 dX4_step_59 rfl rfl ?_
          rcases (show n = 0 ∨ n = 1 ∨ n = 2 ∨ n = 3 ∨ n = 4 from by omega) with rfl | rfl | rfl | rfl | rfl
          · refine zV_jtableIn 0 92 dX4_step_60 ⟨by omega, by omega⟩ (by omega) (by omega) rfl rfl ?_
            refine zV_aload_n 0 dX4_step_92 rfl rfl (Or.inr ⟨_, rfl⟩) ?_
            refine zV_getf (v := .ref (o + 9)) (ci := 3) (q := (RX4, TX4, 27)) 11 dX4_step_93 q1928 (md_k hM1) rfl (by decide) (congrArg va_rf (md_r_from hM1)) (by decide) ?_
            refine zV_iload_n 2 dX4_step_96 rfl rfl ?_
            refine zV_tiald i 64 dX4_step_97 (md_k_from hM1) (md_z_from hM1) (by omega) (by omega) (by omega) ?_
            refine zV.eq (show ((zI h1 (o + 9) i).toInt : Int) = ((qP P k i : Nat) : Int) from hj.1) ?_
            exact zV_ireturn dX4_step_98 rfl rfl ⟨_, rfl, zTd.go1 j1 i0, fun _ => rfl⟩
          · refine zV_jtableIn 1 99 dX4_step_60 ⟨by omega, by omega⟩ (by omega) (by omega) rfl rfl ?_
            refine zV_aload_n 0 dX4_step_99 rfl rfl (Or.inr ⟨_, rfl⟩) ?_
            refine zV_getf (v := .ref (o + 10)) (ci := 3) (q := (RX4, TX4, 27)) 12 dX4_step_100 q1929 (md_k hM1) rfl (by decide) (congrArg va_rf (md_r_length hM1)) (by decide) ?_
            refine zV_iload_n 2 dX4_step_103 rfl rfl ?_
            refine zV_tiald i 64 dX4_step_104 (md_k_length hM1) (md_z_length hM1) (by omega) (by omega) (by omega) ?_
            refine zV.eq (show ((zI h1 (o + 10) i).toInt : Int) = ((qG P k i : Nat) : Int) from hj.2.1) ?_
            exact zV_ireturn dX4_step_105 rfl rfl ⟨_, rfl, zTd.go1 j1 i0, fun _ => rfl⟩
          · refine zV_jtableIn 2 106 dX4_step_60 ⟨by omega, by omega⟩ (by omega) (by omega) rfl rfl ?_
            refine zV_aload_n 0 dX4_step_106 rfl rfl (Or.inr ⟨_, rfl⟩) ?_
            refine zV_getf (v := .ref (o + 11)) (ci := 3) (q := (RX4, TX4, 27)) 13 dX4_step_107 q1930 (md_k hM1) rfl (by decide) (congrArg va_rf (md_r_distance hM1)) (by decide) ?_
            refine zV_iload_n 2 dX4_step_110 rfl rfl ?_
            refine zV_tiald i 64 dX4_step_111 (md_k_distance hM1) (md_z_distance hM1) (by omega) (by omega) (by omega) ?_
            refine zV.eq (show ((zI h1 (o + 11) i).toInt : Int) = ((qD P k i : Nat) : Int) from hj.2.2) ?_
            exact zV_ireturn dX4_step_112 rfl rfl ⟨_, rfl, zTd.go1 j1 i0, fun _ => rfl⟩
          · refine zV_jtableIn 3 113 dX4_step_60 ⟨by omega, by omega⟩ (by omega) (by omega) rfl rfl ?_
            refine zV_aload_n 0 dX4_step_113 rfl rfl (Or.inr ⟨_, rfl⟩) ?_
            refine zV_iload_n 2 dX4_step_114 rfl rfl ?_
            refine zc_V (y' := zX4_stepCost) (as := [.int (jI (((i : Nat) : Int)))]) (rest := []) (ci := 3) (q := (RX4, TX4, 27)) bX4_stepCost dX4_step_115 q2377 q2379 qs111 (md_k hM1) rfl (c_X4_stepCost hM1 hP1 hw hS1 (Nat.le_refl _) i (by omega)) rfl rfl (by decide) (Nat.le_of_ble_eq_true rfl) (by decide) (zk_J1 ?_)
            exact zV_ireturn dX4_step_118 rfl rfl ⟨_, rfl, zTd.go1 j1 i0, fun _ => rfl⟩
          · refine zV_jtableOut 119 dX4_step_60 ⟨by omega, by omega⟩ (by omega) rfl ?_
            refine zV_aload_n 0 dX4_step_119 rfl rfl (Or.inr ⟨_, rfl⟩) ?_
            refine zV_iload_n 2 dX4_step_120 rfl rfl ?_
            refine zc_V (y' := zX4_lastOf) (as := [.int (jI (((i : Nat) : Int)))]) (rest := []) (ci := 3) (q := (RX4, TX4, 27)) bX4_lastOf dX4_step_121 q2353 q2355 qs106 (md_k hM1) rfl (c_X4_lastOf hM1 hw hS1 (Nat.le_refl _) i (by omega)) rfl rfl (by decide) (Nat.le_of_ble_eq_true rfl) (by decide) (zk_J1 ?_)
            exact zV_ireturn dX4_step_124 rfl rfl ⟨_, rfl, zTd.go1 j1 i0, fun _ => rfl⟩
        · exact absurd ⟨⟨c1, c2⟩, ⟨c1, c2⟩, c3⟩ cm
      · refine zV.eq (show (bI (0 ≤ b ∧ b ≤ ((qN P k : Nat) : Int) - 1) : Int) = 0 from bI_f c3) ?_
        refine zV_jif_eq 50 dX4_step_43 rfl ⟨by decide, by decide⟩ (fun _ => ?_) (fun c_ => absurd c_ (by decide))
        refine zV_iconst (n := 0) dX4_step_50 ?_
        refine zV.eq (show (0 : Int) = bI (((0 ≤ ((k : Nat) : Int) ∧ ((k : Nat) : Int) ≤ 3) ∧ (0 ≤ c ∧ c ≤ 4)) ∧ (0 ≤ b ∧ b ≤ ((qN P ((k : Nat) : Int).toNat : Nat) : Int) - 1)) from (bI_f (fun z => c3 z.2)).symm) ?_
        refine zV.eq2 (show (1 : Int) = bI ((0 ≤ ((k : Nat) : Int) ∧ ((k : Nat) : Int) ≤ 3) ∧ (0 ≤ c ∧ c ≤ 4)) from (bI_t ⟨c1, c2⟩).symm) ?_
        refine zc_V (y' := zX4_mayTwo) (as := [.int (jI (bI ((0 ≤ ((k : Nat) : Int) ∧ ((k : Nat) : Int) ≤ 3) ∧ (0 ≤ c ∧ c ≤ 4)))), .int (jI (bI (((0 ≤ ((k : Nat) : Int) ∧ ((k : Nat) : Int) ≤ 3) ∧ (0 ≤ c ∧ c ≤ 4)) ∧ (0 ≤ b ∧ b ≤ ((qN P ((k : Nat) : Int).toNat : Nat) : Int) - 1))))]) (rest := []) (ci := 3) (q := (RX4, TX4, 27)) bX4_mayTwo dX4_step_51 q2145 q2147 qs70 (md_k hM2) rfl (c_X4_mayTwo hM2 ((0 ≤ ((k : Nat) : Int) ∧ ((k : Nat) : Int) ≤ 3) ∧ (0 ≤ c ∧ c ≤ 4)) (((0 ≤ ((k : Nat) : Int) ∧ ((k : Nat) : Int) ≤ 3) ∧ (0 ≤ c ∧ c ≤ 4)) ∧ (0 ≤ b ∧ b ≤ ((qN P ((k : Nat) : Int).toNat : Nat) : Int) - 1))) rfl rfl (by decide) (Nat.le_of_ble_eq_true rfl) (by decide) (zk_I (fun z h1 ⟨ez, i0⟩ _ => ?_))
        subst ez
        have hM1 : MdL h1 o := hM2.ch i0.1
        have hP1 : gI h1 (o + 1) = P := (i0.1.row (by simp)).trans hP2
        by_cases cm : ((0 ≤ ((k : Nat) : Int) ∧ ((k : Nat) : Int) ≤ 3) ∧ (0 ≤ c ∧ c ≤ 4)) ∧ (((0 ≤ ((k : Nat) : Int) ∧ ((k : Nat) : Int) ≤ 3) ∧ (0 ≤ c ∧ c ≤ 4)) ∧ (0 ≤ b ∧ b ≤ ((qN P ((k : Nat) : Int).toNat : Nat) : Int) - 1))
        · exact absurd cm.2.2 c3
        · refine zV.eq (show (bI (((0 ≤ ((k : Nat) : Int) ∧ ((k : Nat) : Int) ≤ 3) ∧ (0 ≤ c ∧ c ≤ 4)) ∧ (((0 ≤ ((k : Nat) : Int) ∧ ((k : Nat) : Int) ≤ 3) ∧ (0 ≤ c ∧ c ≤ 4)) ∧ (0 ≤ b ∧ b ≤ ((qN P ((k : Nat) : Int).toNat : Nat) : Int) - 1))) : Int) = 0 from bI_f cm) ?_
          refine zV_jif_ne 59 dX4_step_54 rfl ⟨by decide, by decide⟩ (fun c_ => absurd c_ (by decide)) (fun _ => ?_)
          refine zV_iconst (n := 0) dX4_step_57 ?_
          exact zV_ireturn dX4_step_58 rfl rfl ⟨_, rfl, zTd.go1 j1 i0, fun e => absurd e (ma2_ne cm)⟩
    · refine zV.eq (show (bI (0 ≤ c ∧ c ≤ 4) : Int) = 0 from bI_f c2) ?_
      refine zV_jif_eq 20 dX4_step_13 rfl ⟨by decide, by decide⟩ (fun _ => ?_) (fun c_ => absurd c_ (by decide))
      refine zV_iconst (n := 0) dX4_step_20 ?_
      refine zV_istore (lv' := [(0, .ref o), (1, .int (jI (a))), (2, .int (jI (b))), (3, .int (jI (c))), (4, .int (jI (0)))]) dX4_step_21 (by decide) rfl rfl ?_
      refine zV_aload_n 0 dX4_step_23 rfl rfl (Or.inr ⟨_, rfl⟩) ?_
      refine zV_iload dX4_step_24 rfl ?_
      refine zV_iload dX4_step_26 rfl ?_
      refine zV_jif_eq 50 dX4_step_28 rfl ⟨by decide, by decide⟩ (fun _ => ?_) (fun c_ => absurd c_ (by decide))
      refine zV_iconst (n := 0) dX4_step_50 ?_
      refine zV.eq (show (0 : Int) = bI (((0 ≤ a ∧ a ≤ 3) ∧ (0 ≤ c ∧ c ≤ 4)) ∧ (0 ≤ b ∧ b ≤ ((qN P a.toNat : Nat) : Int) - 1)) from (bI_f (fun z => c2 z.1.2)).symm) ?_
      refine zV.eq2 (show (0 : Int) = bI ((0 ≤ a ∧ a ≤ 3) ∧ (0 ≤ c ∧ c ≤ 4)) from (bI_f (fun z => c2 z.2)).symm) ?_
      refine zc_V (y' := zX4_mayTwo) (as := [.int (jI (bI ((0 ≤ a ∧ a ≤ 3) ∧ (0 ≤ c ∧ c ≤ 4)))), .int (jI (bI (((0 ≤ a ∧ a ≤ 3) ∧ (0 ≤ c ∧ c ≤ 4)) ∧ (0 ≤ b ∧ b ≤ ((qN P a.toNat : Nat) : Int) - 1))))]) (rest := []) (ci := 3) (q := (RX4, TX4, 27)) bX4_mayTwo dX4_step_51 q2145 q2147 qs70 (md_k hM) rfl (c_X4_mayTwo hM ((0 ≤ a ∧ a ≤ 3) ∧ (0 ≤ c ∧ c ≤ 4)) (((0 ≤ a ∧ a ≤ 3) ∧ (0 ≤ c ∧ c ≤ 4)) ∧ (0 ≤ b ∧ b ≤ ((qN P a.toNat : Nat) : Int) - 1))) rfl rfl (by decide) (Nat.le_of_ble_eq_true rfl) (by decide) (zk_I (fun z h1 ⟨ez, i0⟩ _ => ?_))
      subst ez
      have hM1 : MdL h1 o := hM.ch i0.1
      have hP1 : gI h1 (o + 1) = P := (i0.1.row (by simp)).trans hP
      by_cases cm : ((0 ≤ a ∧ a ≤ 3) ∧ (0 ≤ c ∧ c ≤ 4)) ∧ (((0 ≤ a ∧ a ≤ 3) ∧ (0 ≤ c ∧ c ≤ 4)) ∧ (0 ≤ b ∧ b ≤ ((qN P a.toNat : Nat) : Int) - 1))
      · exact absurd cm.1 (fun z => c2 z.2)
      · refine zV.eq (show (bI (((0 ≤ a ∧ a ≤ 3) ∧ (0 ≤ c ∧ c ≤ 4)) ∧ (((0 ≤ a ∧ a ≤ 3) ∧ (0 ≤ c ∧ c ≤ 4)) ∧ (0 ≤ b ∧ b ≤ ((qN P a.toNat : Nat) : Int) - 1))) : Int) = 0 from bI_f cm) ?_
        refine zV_jif_ne 59 dX4_step_54 rfl ⟨by decide, by decide⟩ (fun c_ => absurd c_ (by decide)) (fun _ => ?_)
        refine zV_iconst (n := 0) dX4_step_57 ?_
        exact zV_ireturn dX4_step_58 rfl rfl ⟨_, rfl, i0.go0, fun e => absurd e (ma2_ne cm)⟩
  · refine zV.eq (show (bI (0 ≤ a ∧ a ≤ 3) : Int) = 0 from bI_f c1) ?_
    refine zV_jif_eq 20 dX4_step_4 rfl ⟨by decide, by decide⟩ (fun _ => ?_) (fun c_ => absurd c_ (by decide))
    refine zV_iconst (n := 0) dX4_step_20 ?_
    refine zV_istore (lv' := [(0, .ref o), (1, .int (jI (a))), (2, .int (jI (b))), (3, .int (jI (c))), (4, .int (jI (0)))]) dX4_step_21 (by decide) rfl rfl ?_
    refine zV_aload_n 0 dX4_step_23 rfl rfl (Or.inr ⟨_, rfl⟩) ?_
    refine zV_iload dX4_step_24 rfl ?_
    refine zV_iload dX4_step_26 rfl ?_
    refine zV_jif_eq 50 dX4_step_28 rfl ⟨by decide, by decide⟩ (fun _ => ?_) (fun c_ => absurd c_ (by decide))
    refine zV_iconst (n := 0) dX4_step_50 ?_
    refine zV.eq (show (0 : Int) = bI (((0 ≤ a ∧ a ≤ 3) ∧ (0 ≤ c ∧ c ≤ 4)) ∧ (0 ≤ b ∧ b ≤ ((qN P a.toNat : Nat) : Int) - 1)) from (bI_f (fun z => c1 z.1.1)).symm) ?_
    refine zV.eq2 (show (0 : Int) = bI ((0 ≤ a ∧ a ≤ 3) ∧ (0 ≤ c ∧ c ≤ 4)) from (bI_f (fun z => c1 z.1)).symm) ?_
    refine zc_V (y' := zX4_mayTwo) (as := [.int (jI (bI ((0 ≤ a ∧ a ≤ 3) ∧ (0 ≤ c ∧ c ≤ 4)))), .int (jI (bI (((0 ≤ a ∧ a ≤ 3) ∧ (0 ≤ c ∧ c ≤ 4)) ∧ (0 ≤ b ∧ b ≤ ((qN P a.toNat : Nat) : Int) - 1))))]) (rest := []) (ci := 3) (q := (RX4, TX4, 27)) bX4_mayTwo dX4_step_51 q2145 q2147 qs70 (md_k hM) rfl (c_X4_mayTwo hM ((0 ≤ a ∧ a ≤ 3) ∧ (0 ≤ c ∧ c ≤ 4)) (((0 ≤ a ∧ a ≤ 3) ∧ (0 ≤ c ∧ c ≤ 4)) ∧ (0 ≤ b ∧ b ≤ ((qN P a.toNat : Nat) : Int) - 1))) rfl rfl (by decide) (Nat.le_of_ble_eq_true rfl) (by decide) (zk_I (fun z h1 ⟨ez, i0⟩ _ => ?_))
    subst ez
    have hM1 : MdL h1 o := hM.ch i0.1
    have hP1 : gI h1 (o + 1) = P := (i0.1.row (by simp)).trans hP
    by_cases cm : ((0 ≤ a ∧ a ≤ 3) ∧ (0 ≤ c ∧ c ≤ 4)) ∧ (((0 ≤ a ∧ a ≤ 3) ∧ (0 ≤ c ∧ c ≤ 4)) ∧ (0 ≤ b ∧ b ≤ ((qN P a.toNat : Nat) : Int) - 1))
    · exact absurd cm.1 (fun z => c1 z.1)
    · refine zV.eq (show (bI (((0 ≤ a ∧ a ≤ 3) ∧ (0 ≤ c ∧ c ≤ 4)) ∧ (((0 ≤ a ∧ a ≤ 3) ∧ (0 ≤ c ∧ c ≤ 4)) ∧ (0 ≤ b ∧ b ≤ ((qN P a.toNat : Nat) : Int) - 1))) : Int) = 0 from bI_f cm) ?_
      refine zV_jif_ne 59 dX4_step_54 rfl ⟨by decide, by decide⟩ (fun c_ => absurd c_ (by decide)) (fun _ => ?_)
      refine zV_iconst (n := 0) dX4_step_57 ?_
      exact zV_ireturn dX4_step_58 rfl rfl ⟨_, rfl, i0.go0, fun e => absurd e (ma2_ne cm)⟩
def stF (P : pRow) (k p : Nat) : Nat → Nat → Nat
  | 0, i => i
  | f + 1, i => if p < qP P k i + qG P k i then i else stF P k p f (i + 1)
/-- the step that a place lies in -/
def stA (P : pRow) (k p : Nat) : Nat := stF P k p 64 0
theorem c_X4_stepAt (hM : MdL h o) (hP : gI h (o + 1) = P) (hw : pWf P) (a : Int) (ha : jr a) (b : Int) (hb : jr b) : zM G zX4_stepAt 7 [.ref o, .int (jI a), .int (jI b)] h (zAn o (ma2 (0 ≤ a ∧ a ≤ 3) (0 ≤ b ∧ b < P 0)) ((stA P a.toNat b.toNat : Nat) : Int) h) := by
  obtain ⟨w0, w0b, w1, w1b, w2, w2b, w3, w3b, w4, w4b, w5, w5b, wp, wl, wn⟩ := id hw
  refine zM.ofV (lv := [(0, .ref o), (1, .int (jI (a))), (2, .int (jI (b)))]) (by decide +kernel) (Nat.le_of_ble_eq_true rfl) rfl ?_
  refine zV_aload_n 0 dX4_stepAt_0 rfl rfl (Or.inr ⟨_, rfl⟩) ?_
  refine zV_iload_n 1 dX4_stepAt_1 rfl rfl ?_
  refine zc_S (y' := zX4_isKind) (as := [.int (jI (a))]) (rest := [.ref o]) bX4_isKind dX4_stepAt_2 q2310 q2311 (c_X4_isKind a ha) rfl rfl (by decide) (Nat.le_of_ble_eq_true rfl) (zk_J1 ?_)
  refine zV_aload_n 0 dX4_stepAt_5 rfl rfl (Or.inr ⟨_, rfl⟩) ?_
  refine zV_iload_n 2 dX4_stepAt_6 rfl rfl ?_
  refine zc_V (y' := zX4_isPlace) (as := [.int (jI (b))]) (rest := [.int (jI (bI (0 ≤ a ∧ a ≤ 3))), .ref o]) (ci := 3) (q := (RX4, TX4, 27)) bX4_isPlace dX4_stepAt_7 q2256 q2258 qs90 (md_k hM) rfl (c_X4_isPlace hM hP hw b hb) rfl rfl (by decide) (Nat.le_of_ble_eq_true rfl) (by decide) (zk_J1 ?_)
  refine zc_V (y' := zX4_mayTwo) (as := [.int (jI (bI (0 ≤ a ∧ a ≤ 3))), .int (jI (bI (0 ≤ b ∧ b < P 0)))]) (rest := []) (ci := 3) (q := (RX4, TX4, 27)) bX4_mayTwo dX4_stepAt_10 q2145 q2147 qs70 (md_k hM) rfl (c_X4_mayTwo hM (0 ≤ a ∧ a ≤ 3) (0 ≤ b ∧ b < P 0)) rfl rfl (by decide) (Nat.le_of_ble_eq_true rfl) (by decide) (zk_I (fun z h1 ⟨ez, i0⟩ _ => ?_))
  subst ez
  have hM1 : MdL h1 o := hM.ch i0.1
  have hP1 : gI h1 (o + 1) = P := (i0.1.row (by simp)).trans hP
  by_cases cm : (0 ≤ a ∧ a ≤ 3) ∧ (0 ≤ b ∧ b < P 0)
  · refine zV.eq (show (bI ((0 ≤ a ∧ a ≤ 3) ∧ (0 ≤ b ∧ b < P 0)) : Int) = 1 from bI_t cm) ?_
    refine zV_jif_ne 18 dX4_stepAt_13 rfl ⟨by decide, by decide⟩ (fun _ => ?_) (fun c_ => absurd c_ (by decide))
    obtain ⟨k, rfl⟩ : ∃ n_ : Nat, a = (n_ : Int) := ⟨(a).toNat, by omega⟩
    obtain ⟨p, rfl⟩ : ∃ n_ : Nat, b = (n_ : Int) := ⟨(b).toNat, by omega⟩
    refine zV_aload_n 0 dX4_stepAt_18 rfl rfl (Or.inr ⟨_, rfl⟩) ?_
    refine zV_iload_n 1 dX4_stepAt_19 rfl rfl ?_
    refine zc_V (y' := zX4_laysParse) (as := [.int (jI (((k : Nat) : Int)))]) (rest := []) (ci := 3) (q := (RX4, TX4, 27)) bX4_laysParse dX4_stepAt_20 q2313 q2315 qs97 (md_k hM1) rfl (c_X4_laysParse hM1 hP1 hw k (by omega)) rfl rfl (by decide) (Nat.le_of_ble_eq_true rfl) (by decide) (zk_V (fun h2 ⟨j1, hS, j3⟩ _ => ?_))
    have hM2 : MdL h2 o := hM1.ch j1
    have hP2 : gI h2 (o + 1) = P := (j1.row (by simp)).trans hP1
    have hN := qN_le hw k
    have hE : (qP P k (qN P k) : Int) = P 0 := (qN_ok hw k).2.1
    refine zV_iconst (n := 0) dX4_stepAt_23 ?_
    refine zV_istore_n (lv' := [(0, .ref o), (1, .int (jI (((k : Nat) : Int)))), (2, .int (jI (((p : Nat) : Int)))), (3, .int (jI (0)))]) 3 dX4_stepAt_24 rfl (by decide) rfl rfl ?_
    have key : ∀ f i : Nat, i + f = 64 → i ≤ qN P k → qP P k i ≤ p → zV G zX4_stepAt 7 25 [(0, .ref o), (1, .int (jI (((k : Nat) : Int)))), (2, .int (jI (((p : Nat) : Int)))), (3, .int (jI (((i : Nat) : Int))))] [] h2 (zOkI (fun z h1 => (zSc o h h1 ∧ gI h1 o 0 = ma2 (0 ≤ ((k : Nat) : Int) ∧ ((k : Nat) : Int) ≤ 3) (0 ≤ ((p : Nat) : Int) ∧ ((p : Nat) : Int) < P 0)) ∧ z = ((stF P k p f i : Nat) : Int))) := by
      intro f
      induction f with
      | zero =>
        intro i g1 g2 g3
        exact absurd g3 (by rw [show i = qN P k by omega]; omega)
      | succ f ih =>
        intro i g1 g2 g3
        have hlt : i < qN P k := by
          by_cases e : i = qN P k
          · rw [e] at g3; omega
          · omega
        have hq := q_b hw hlt
        have hj := hS.2 i hlt
        refine zV_aload_n 0 dX4_stepAt_25 rfl rfl (Or.inr ⟨_, rfl⟩) ?_
        refine zV_getf (v := .ref (o + 9)) (ci := 3) (q := (RX4, TX4, 27)) 11 dX4_stepAt_26 q1928 (md_k hM2) rfl (by decide) (congrArg va_rf (md_r_from hM2)) (by decide) ?_
        refine zV_iload_n 3 dX4_stepAt_29 rfl rfl ?_
        refine zV_tiald i 64 dX4_stepAt_30 (md_k_from hM2) (md_z_from hM2) (by omega) (by omega) (by omega) ?_
        refine zV.eq (show ((zI h2 (o + 9) i).toInt : Int) = ((qP P k i : Nat) : Int) from hj.1) ?_
        refine zV_aload_n 0 dX4_stepAt_31 rfl rfl (Or.inr ⟨_, rfl⟩) ?_
        refine zV_getf (v := .ref (o + 10)) (ci := 3) (q := (RX4, TX4, 27)) 12 dX4_stepAt_32 q1929 (md_k hM2) rfl (by decide) (congrArg va_rf (md_r_length hM2)) (by decide) ?_
        refine zV_iload_n 3 dX4_stepAt_35 rfl rfl ?_
        refine zV_tiald i 64 dX4_stepAt_36 (md_k_length hM2) (md_z_length hM2) (by omega) (by omega) (by omega) ?_
        refine zV.eq (show ((zI h2 (o + 10) i).toInt : Int) = ((qG P k i : Nat) : Int) from hj.2.1) ?_
        refine zV_jadd dX4_stepAt_37 ?_
        refine zV_iload_n 2 dX4_stepAt_38 rfl rfl ?_
        refine zV_jcmp_gt 49 dX4_stepAt_39 rfl ⟨by omega, by omega⟩ ⟨by omega, by omega⟩ (fun c1 => ?_) (fun c1 => ?_)
        · refine zV_iload_n 3 dX4_stepAt_49 rfl rfl ?_
          exact zV_ireturn dX4_stepAt_50 rfl rfl ⟨_, rfl, i0.go j1 (by simp) (by simp) (by simp), by rw [stF, if_pos (by omega)]⟩
        · refine zV_iload_n 3 dX4_stepAt_42 rfl rfl ?_
          refine zV_iconst (n := 1) dX4_stepAt_43 ?_
          refine zV_jadd dX4_stepAt_44 ?_
          refine zV_istore_n (lv' := [(0, .ref o), (1, .int (jI (((k : Nat) : Int)))), (2, .int (jI (((p : Nat) : Int)))), (3, .int (jI (((i : Nat) : Int) + 1)))]) 3 dX4_stepAt_45 rfl (by decide) rfl rfl ?_
          refine zV_goto 25 dX4_stepAt_46 rfl ?_
          rw [show (((i : Nat) : Int) + 1 : Int) = ((i + 1 : Nat) : Int) from by omega]
          rw [stF, if_neg (by omega)]
          exact ih (i + 1) (by omega) (by omega) (by rw [qP_s]; omega)
    exact zV.mono (key 64 0 (by omega) (by omega) (Nat.zero_le _)) (fun r h1 _ ⟨z, e1, e2, e3⟩ => ⟨z, e1, e2, fun _ => e3⟩)
  · refine zV.eq (show (bI ((0 ≤ a ∧ a ≤ 3) ∧ (0 ≤ b ∧ b < P 0)) : Int) = 0 from bI_f cm) ?_
    refine zV_jif_ne 18 dX4_stepAt_13 rfl ⟨by decide, by decide⟩ (fun c_ => absurd c_ (by decide)) (fun _ => ?_)
    refine zV_iconst (n := 0) dX4_stepAt_16 ?_
    exact zV_ireturn dX4_stepAt_17 rfl rfl ⟨_, rfl, i0.go0, fun e => absurd e (ma2_ne cm)⟩
def vPa (P : pRow) (k b : Nat) : Int := if b = 0 then qS P k else if b = 1 then ((qN P k : Nat) : Int) - cpN P k else if b = 2 then cpN P k else if b = 3 then rnN P k else if b = 4 then agN P k else if b = 5 then deN P k else cpP P k
theorem c_X4_parse (hM : MdL h o) (hP : gI h (o + 1) = P) (hw : pWf P) (a : Int) (ha : jr a) (b : Int) (hb : jr b) : zM G zX4_parse 7 [.ref o, .int (jI a), .int (jI b)] h (zAn o (ma1 ((0 ≤ a ∧ a ≤ 3) ∧ (0 ≤ b ∧ b ≤ 6))) (vPa P a.toNat b.toNat) h) := by
  refine zM.ofV (lv := [(0, .ref o), (1, .int (jI (a))), (2, .int (jI (b)))]) (by decide +kernel) (Nat.le_of_ble_eq_true rfl) rfl ?_
  refine zV_aload_n 0 dX4_parse_0 rfl rfl (Or.inr ⟨_, rfl⟩) ?_
  refine zV_iload_n 1 dX4_parse_1 rfl rfl ?_
  refine zc_S (y' := zX4_isKind) (as := [.int (jI (a))]) (rest := [.ref o]) bX4_isKind dX4_parse_2 q2310 q2311 (c_X4_isKind a ha) rfl rfl (by decide) (Nat.le_of_ble_eq_true rfl) (zk_J1 ?_)
  by_cases c1 : 0 ≤ a ∧ a ≤ 3
  · refine zV.eq (show (bI (0 ≤ a ∧ a ≤ 3) : Int) = 1 from bI_t c1) ?_
    refine zV_jif_eq 22 dX4_parse_5 rfl ⟨by decide, by decide⟩ (fun c_ => absurd c_ (by decide)) (fun _ => ?_)
    refine zV_iload_n 2 dX4_parse_8 rfl rfl ?_
    refine zV_iconst (n := 0) dX4_parse_9 ?_
    refine zV_jbipush dX4_parse_10 (by decide) ?_
    refine zc_S (y' := zX4_isIn) (as := [.int (jI (b)), .int (jI (0)), .int (jI (6))]) (rest := [.ref o]) bX4_isIn dX4_parse_12 q2012 q2013 (c_X4_isIn (b) (0) (6) hb ⟨by decide, by decide⟩ ⟨by decide, by decide⟩) rfl rfl (by decide) (Nat.le_of_ble_eq_true rfl) (zk_J1 ?_)
    by_cases c2 : 0 ≤ b ∧ b ≤ 6
    · refine zV.eq (show (bI (0 ≤ b ∧ b ≤ 6) : Int) = 1 from bI_t c2) ?_
      refine zV_jif_eq 22 dX4_parse_15 rfl ⟨by decide, by decide⟩ (fun c_ => absurd c_ (by decide)) (fun _ => ?_)
      refine zV_iconst (n := 1) dX4_parse_18 ?_
      refine zV_goto 23 dX4_parse_19 rfl ?_
      refine zV.eq (show (1 : Int) = bI ((0 ≤ a ∧ a ≤ 3) ∧ (0 ≤ b ∧ b ≤ 6)) from (bI_t ⟨c1, c2⟩).symm) ?_
      refine zc_V (y' := zX4_mayOne) (as := [.int (jI (bI ((0 ≤ a ∧ a ≤ 3) ∧ (0 ≤ b ∧ b ≤ 6))))]) (rest := []) (ci := 3) (q := (RX4, TX4, 27)) bX4_mayOne dX4_parse_23 q2141 q2143 qs69 (md_k hM) rfl (c_X4_mayOne hM ((0 ≤ a ∧ a ≤ 3) ∧ (0 ≤ b ∧ b ≤ 6))) rfl rfl (by decide) (Nat.le_of_ble_eq_true rfl) (by decide) (zk_I (fun z h1 ⟨ez, i0⟩ _ => ?_))
      subst ez
      have hM1 : MdL h1 o := hM.ch i0.1
      have hP1 : gI h1 (o + 1) = P := (i0.1.row (by simp)).trans hP
      by_cases cm : (0 ≤ a ∧ a ≤ 3) ∧ (0 ≤ b ∧ b ≤ 6)
      · refine zV.eq (show (bI ((0 ≤ a ∧ a ≤ 3) ∧ (0 ≤ b ∧ b ≤ 6)) : Int) = 1 from bI_t cm) ?_
        refine zV_jif_ne 31 dX4_parse_26 rfl ⟨by decide, by decide⟩ (fun _ => ?_) (fun c_ => absurd c_ (by decide))
        obtain ⟨k, rfl⟩ : ∃ n_ : Nat, a = (n_ : Int) := ⟨(a).toNat, by omega⟩
        obtain ⟨n, rfl⟩ : ∃ n_ : Nat, b = (n_ : Int) := ⟨(b).toNat, by omega⟩
        refine zV_aload_n 0 dX4_parse_31 rfl rfl (Or.inr ⟨_, rfl⟩) ?_
        refine zV_iload_n 1 dX4_parse_32 rfl rfl ?_
        refine zc_V (y' := zX4_laysParse) (as := [.int (jI (((k : Nat) : Int)))]) (rest := []) (ci := 3) (q := (RX4, TX4, 27)) bX4_laysParse dX4_parse_33 q2313 q2315 qs97 (md_k hM1) rfl (c_X4_laysParse hM1 hP1 hw k (by omega)) rfl rfl (by decide) (Nat.le_of_ble_eq_true rfl) (by decide) (zk_V (fun h2 ⟨j1, hS, j3⟩ _ => ?_))
        have hM2 : MdL h2 o := hM1.ch j1
        have hP2 : gI h2 (o + 1) = P := (j1.row (by simp)).trans hP1
        refine zV_iload_n 2 dX4_parse_36 rfl rfl ?_
        rcases (show n = 0 ∨ n = 1 ∨ n = 2 ∨ n = 3 ∨ n = 4 ∨ n = 5 ∨ n = 6 from by omega) with rfl | rfl | rfl | rfl | rfl | rfl | rfl
        · refine zV_jtableIn 0 76 dX4_parse_37 ⟨by omega, by omega⟩ (by omega) (by omega) rfl rfl ?_
          refine zV_aload_n 0 dX4_parse_76 rfl rfl (Or.inr ⟨_, rfl⟩) ?_
          refine zc_V (y' := zX4_parseCost) (as := []) (rest := []) (ci := 3) (q := (RX4, TX4, 27)) bX4_parseCost dX4_parse_77 q2389 q2391 qs112 (md_k hM2) rfl (c_X4_parseCost hM2 hP2 hw hS) rfl rfl (by decide) (Nat.le_of_ble_eq_true rfl) (by decide) (zk_J1 ?_)
          exact zV_ireturn dX4_parse_80 rfl rfl ⟨_, rfl, i0.go j1 (by simp) (by simp) (by simp), fun _ => rfl⟩
        · refine zV_jtableIn 1 81 dX4_parse_37 ⟨by omega, by omega⟩ (by omega) (by omega) rfl rfl ?_
          refine zV_aload_n 0 dX4_parse_81 rfl rfl (Or.inr ⟨_, rfl⟩) ?_
          refine zV_tgetf (ci := 3) (q := (RX4, TX4, 27)) 14 dX4_parse_82 q1931 (md_k hM2) rfl (by decide) rfl (by decide) ?_
          refine zV.eq (show ((zI h2 o 14).toInt : Int) = ((qN P k : Nat) : Int) from hS.1) ?_
          refine zV_aload_n 0 dX4_parse_85 rfl rfl (Or.inr ⟨_, rfl⟩) ?_
          refine zc_V (y' := zX4_copySteps) (as := []) (rest := [.int (jI (((qN P k : Nat) : Int)))]) (ci := 3) (q := (RX4, TX4, 27)) bX4_copySteps dX4_parse_86 q2393 q2395 qs113 (md_k hM2) rfl (c_X4_copySteps hM2 hP2 hw hS) rfl rfl (by decide) (Nat.le_of_ble_eq_true rfl) (by decide) (zk_J1 ?_)
          refine zV_jsub dX4_parse_89 ?_
          exact zV_ireturn dX4_parse_90 rfl rfl ⟨_, rfl, i0.go j1 (by simp) (by simp) (by simp), fun _ => rfl⟩
        · refine zV_jtableIn 2 91 dX4_parse_37 ⟨by omega, by omega⟩ (by omega) (by omega) rfl rfl ?_
          refine zV_aload_n 0 dX4_parse_91 rfl rfl (Or.inr ⟨_, rfl⟩) ?_
          refine zc_V (y' := zX4_copySteps) (as := []) (rest := []) (ci := 3) (q := (RX4, TX4, 27)) bX4_copySteps dX4_parse_92 q2393 q2395 qs113 (md_k hM2) rfl (c_X4_copySteps hM2 hP2 hw hS) rfl rfl (by decide) (Nat.le_of_ble_eq_true rfl) (by decide) (zk_J1 ?_)
          exact zV_ireturn dX4_parse_95 rfl rfl ⟨_, rfl, i0.go j1 (by simp) (by simp) (by simp), fun _ => rfl⟩
        · refine zV_jtableIn 3 96 dX4_parse_37 ⟨by omega, by omega⟩ (by omega) (by omega) rfl rfl ?_
          refine zV_aload_n 0 dX4_parse_96 rfl rfl (Or.inr ⟨_, rfl⟩) ?_
          refine zc_V (y' := zX4_runMany) (as := []) (rest := []) (ci := 3) (q := (RX4, TX4, 27)) bX4_runMany dX4_parse_97 q2397 q2399 qs114 (md_k hM2) rfl (c_X4_runMany hM2 hP2 hw hS) rfl rfl (by decide) (Nat.le_of_ble_eq_true rfl) (by decide) (zk_J1 ?_)
          exact zV_ireturn dX4_parse_100 rfl rfl ⟨_, rfl, i0.go j1 (by simp) (by simp) (by simp), fun _ => rfl⟩
        · refine zV_jtableIn 4 101 dX4_parse_37 ⟨by omega, by omega⟩ (by omega) (by omega) rfl rfl ?_
          refine zV_aload_n 0 dX4_parse_101 rfl rfl (Or.inr ⟨_, rfl⟩) ?_
          refine zc_V (y' := zX4_againMany) (as := []) (rest := []) (ci := 3) (q := (RX4, TX4, 27)) bX4_againMany dX4_parse_102 q2401 q2403 qs115 (md_k hM2) rfl (c_X4_againMany hM2 hP2 hw hS) rfl rfl (by decide) (Nat.le_of_ble_eq_true rfl) (by decide) (zk_J1 ?_)
          exact zV_ireturn dX4_parse_105 rfl rfl ⟨_, rfl, i0.go j1 (by simp) (by simp) (by simp), fun _ => rfl⟩
        · refine zV_jtableIn 5 106 dX4_parse_37 ⟨by omega, by omega⟩ (by omega) (by omega) rfl rfl ?_
          refine zV_aload_n 0 dX4_parse_106 rfl rfl (Or.inr ⟨_, rfl⟩) ?_
          refine zc_V (y' := zX4_dearest) (as := []) (rest := []) (ci := 3) (q := (RX4, TX4, 27)) bX4_dearest dX4_parse_107 q2405 q2407 qs116 (md_k hM2) rfl (c_X4_dearest hM2 hP2 hw hS) rfl rfl (by decide) (Nat.le_of_ble_eq_true rfl) (by decide) (zk_J1 ?_)
          exact zV_ireturn dX4_parse_110 rfl rfl ⟨_, rfl, i0.go j1 (by simp) (by simp) (by simp), fun _ => rfl⟩
        · refine zV_jtableOut 111 dX4_parse_37 ⟨by omega, by omega⟩ (by omega) rfl ?_
          refine zV_aload_n 0 dX4_parse_111 rfl rfl (Or.inr ⟨_, rfl⟩) ?_
          refine zc_V (y' := zX4_copiedPlaces) (as := []) (rest := []) (ci := 3) (q := (RX4, TX4, 27)) bX4_copiedPlaces dX4_parse_112 q2409 q2411 qs117 (md_k hM2) rfl (c_X4_copiedPlaces hM2 hP2 hw hS) rfl rfl (by decide) (Nat.le_of_ble_eq_true rfl) (by decide) (zk_J1 ?_)
          exact zV_ireturn dX4_parse_115 rfl rfl ⟨_, rfl, i0.go j1 (by simp) (by simp) (by simp), fun _ => rfl⟩
      · exact absurd ⟨c1, c2⟩ cm
    · refine zV.eq (show (bI (0 ≤ b ∧ b ≤ 6) : Int) = 0 from bI_f c2) ?_
      refine zV_jif_eq 22 dX4_parse_15 rfl ⟨by decide, by decide⟩ (fun _ => ?_) (fun c_ => absurd c_ (by decide))
      refine zV_iconst (n := 0) dX4_parse_22 ?_
      refine zV.eq (show (0 : Int) = bI ((0 ≤ a ∧ a ≤ 3) ∧ (0 ≤ b ∧ b ≤ 6)) from (bI_f (fun z => c2 z.2)).symm) ?_
      refine zc_V (y' := zX4_mayOne) (as := [.int (jI (bI ((0 ≤ a ∧ a ≤ 3) ∧ (0 ≤ b ∧ b ≤ 6))))]) (rest := []) (ci := 3) (q := (RX4, TX4, 27)) bX4_mayOne dX4_parse_23 q2141 q2143 qs69 (md_k hM) rfl (c_X4_mayOne hM ((0 ≤ a ∧ a ≤ 3) ∧ (0 ≤ b ∧ b ≤ 6))) rfl rfl (by decide) (Nat.le_of_ble_eq_true rfl) (by decide) (zk_I (fun z h1 ⟨ez, i0⟩ _ => ?_))
      subst ez
      have hM1 : MdL h1 o := hM.ch i0.1
      have hP1 : gI h1 (o + 1) = P := (i0.1.row (by simp)).trans hP
      by_cases cm : (0 ≤ a ∧ a ≤ 3) ∧ (0 ≤ b ∧ b ≤ 6)
      · exact absurd cm.2 c2
      · refine zV.eq (show (bI ((0 ≤ a ∧ a ≤ 3) ∧ (0 ≤ b ∧ b ≤ 6)) : Int) = 0 from bI_f cm) ?_
        refine zV_jif_ne 31 dX4_parse_26 rfl ⟨by decide, by decide⟩ (fun c_ => absurd c_ (by decide)) (fun _ => ?_)
        refine zV_iconst (n := 0) dX4_parse_29 ?_
        exact zV_ireturn dX4_parse_30 rfl rfl ⟨_, rfl, i0.go0, fun e => absurd e (ma1_ne cm)⟩
  · refine zV.eq (show (bI (0 ≤ a ∧ a ≤ 3) : Int) = 0 from bI_f c1) ?_
    refine zV_jif_eq 22 dX4_parse_5 rfl ⟨by decide, by decide⟩ (fun _ => ?_) (fun c_ => absurd c_ (by decide))
    refine zV_iconst (n := 0) dX4_parse_22 ?_
    refine zV.eq (show (0 : Int) = bI ((0 ≤ a ∧ a ≤ 3) ∧ (0 ≤ b ∧ b ≤ 6)) from (bI_f (fun z => c1 z.1)).symm) ?_
    refine zc_V (y' := zX4_mayOne) (as := [.int (jI (bI ((0 ≤ a ∧ a ≤ 3) ∧ (0 ≤ b ∧ b ≤ 6))))]) (rest := []) (ci := 3) (q := (RX4, TX4, 27)) bX4_mayOne dX4_parse_23 q2141 q2143 qs69 (md_k hM) rfl (c_X4_mayOne hM ((0 ≤ a ∧ a ≤ 3) ∧ (0 ≤ b ∧ b ≤ 6))) rfl rfl (by decide) (Nat.le_of_ble_eq_true rfl) (by decide) (zk_I (fun z h1 ⟨ez, i0⟩ _ => ?_))
    subst ez
    have hM1 : MdL h1 o := hM.ch i0.1
    have hP1 : gI h1 (o + 1) = P := (i0.1.row (by simp)).trans hP
    by_cases cm : (0 ≤ a ∧ a ≤ 3) ∧ (0 ≤ b ∧ b ≤ 6)
    · exact absurd cm.1 c1
    · refine zV.eq (show (bI ((0 ≤ a ∧ a ≤ 3) ∧ (0 ≤ b ∧ b ≤ 6)) : Int) = 0 from bI_f cm) ?_
      refine zV_jif_ne 31 dX4_parse_26 rfl ⟨by decide, by decide⟩ (fun c_ => absurd c_ (by decide)) (fun _ => ?_)
      refine zV_iconst (n := 0) dX4_parse_29 ?_
      exact zV_ireturn dX4_parse_30 rfl rfl ⟨_, rfl, i0.go0, fun e => absurd e (ma1_ne cm)⟩
end M12
