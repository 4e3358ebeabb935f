/-! what one setter leaves of the others -/
theorem mv_nw_wNw {V : MV} {x : Nat → Int32} : (V.wNw x).nw = x := rfl
theorem mv_tr_wNw {V : MV} {x : Nat → Int32} : (V.wNw x).tr = V.tr := rfl
theorem mv_kp_wNw {V : MV} {x : Nat → Int32} : (V.wNw x).kp = V.kp := rfl
theorem mv_sv_wNw {V : MV} {x : Nat → Int32} : (V.wNw x).sv = V.sv := rfl
theorem mv_mv_wNw {V : MV} {x : Nat → Int32} : (V.wNw x).mv = V.mv := rfl
theorem mv_ln_wNw {V : MV} {x : Nat → Int32} : (V.wNw x).ln = V.ln := rfl
theorem mv_tx_wNw {V : MV} {x : Nat → Int32} : (V.wNw x).tx = V.tx := rfl
theorem mv_to_wNw {V : MV} {x : Nat → Int32} : (V.wNw x).to = V.to := rfl
theorem mv_un_wNw {V : MV} {x : Nat → Int32} : (V.wNw x).un = V.un := rfl
theorem mv_is_wNw {V : MV} {x : Nat → Int32} : (V.wNw x).is = V.is := rfl
theorem mv_ld_wNw {V : MV} {x : Nat → Int32} : (V.wNw x).ld = V.ld := rfl
theorem mv_le_wNw {V : MV} {x : Nat → Int32} : (V.wNw x).le = V.le := rfl
theorem mv_ps_wNw {V : MV} {x : Nat → Int32} : (V.wNw x).ps = V.ps := rfl
theorem mv_cm_wNw {V : MV} {x : Nat → Int32} : (V.wNw x).cm = V.cm := rfl
theorem mv_fa_wNw {V : MV} {x : Nat → Int32} : (V.wNw x).fa = V.fa := rfl
theorem mv_re_wNw {V : MV} {x : Nat → Int32} : (V.wNw x).re = V.re := rfl
theorem mv_de_wNw {V : MV} {x : Nat → Int32} : (V.wNw x).de = V.de := rfl
theorem mv_an_wNw {V : MV} {x : Nat → Int32} : (V.wNw x).an = V.an := rfl
theorem mv_th_wNw {V : MV} {x : Nat → Int32} : (V.wNw x).th = V.th := rfl
theorem mv_nw_wTr {V : MV} {x : Nat → Int32} : (V.wTr x).nw = V.nw := rfl
theorem mv_tr_wTr {V : MV} {x : Nat → Int32} : (V.wTr x).tr = x := rfl
theorem mv_kp_wTr {V : MV} {x : Nat → Int32} : (V.wTr x).kp = V.kp := rfl
theorem mv_sv_wTr {V : MV} {x : Nat → Int32} : (V.wTr x).sv = V.sv := rfl
theorem mv_mv_wTr {V : MV} {x : Nat → Int32} : (V.wTr x).mv = V.mv := rfl
theorem mv_ln_wTr {V : MV} {x : Nat → Int32} : (V.wTr x).ln = V.ln := rfl
theorem mv_tx_wTr {V : MV} {x : Nat → Int32} : (V.wTr x).tx = V.tx := rfl
theorem mv_to_wTr {V : MV} {x : Nat → Int32} : (V.wTr x).to = V.to := rfl
theorem mv_un_wTr {V : MV} {x : Nat → Int32} : (V.wTr x).un = V.un := rfl
theorem mv_is_wTr {V : MV} {x : Nat → Int32} : (V.wTr x).is = V.is := rfl
theorem mv_ld_wTr {V : MV} {x : Nat → Int32} : (V.wTr x).ld = V.ld := rfl
theorem mv_le_wTr {V : MV} {x : Nat → Int32} : (V.wTr x).le = V.le := rfl
theorem mv_ps_wTr {V : MV} {x : Nat → Int32} : (V.wTr x).ps = V.ps := rfl
theorem mv_cm_wTr {V : MV} {x : Nat → Int32} : (V.wTr x).cm = V.cm := rfl
theorem mv_fa_wTr {V : MV} {x : Nat → Int32} : (V.wTr x).fa = V.fa := rfl
theorem mv_re_wTr {V : MV} {x : Nat → Int32} : (V.wTr x).re = V.re := rfl
theorem mv_de_wTr {V : MV} {x : Nat → Int32} : (V.wTr x).de = V.de := rfl
theorem mv_an_wTr {V : MV} {x : Nat → Int32} : (V.wTr x).an = V.an := rfl
theorem mv_th_wTr {V : MV} {x : Nat → Int32} : (V.wTr x).th = V.th := rfl
theorem mv_nw_wKp {V : MV} {x : Nat → Int32} : (V.wKp x).nw = V.nw := rfl
theorem mv_tr_wKp {V : MV} {x : Nat → Int32} : (V.wKp x).tr = V.tr := rfl
theorem mv_kp_wKp {V : MV} {x : Nat → Int32} : (V.wKp x).kp = x := rfl
theorem mv_sv_wKp {V : MV} {x : Nat → Int32} : (V.wKp x).sv = V.sv := rfl
theorem mv_mv_wKp {V : MV} {x : Nat → Int32} : (V.wKp x).mv = V.mv := rfl
theorem mv_ln_wKp {V : MV} {x : Nat → Int32} : (V.wKp x).ln = V.ln := rfl
theorem mv_tx_wKp {V : MV} {x : Nat → Int32} : (V.wKp x).tx = V.tx := rfl
theorem mv_to_wKp {V : MV} {x : Nat → Int32} : (V.wKp x).to = V.to := rfl
theorem mv_un_wKp {V : MV} {x : Nat → Int32} : (V.wKp x).un = V.un := rfl
theorem mv_is_wKp {V : MV} {x : Nat → Int32} : (V.wKp x).is = V.is := rfl
theorem mv_ld_wKp {V : MV} {x : Nat → Int32} : (V.wKp x).ld = V.ld := rfl
theorem mv_le_wKp {V : MV} {x : Nat → Int32} : (V.wKp x).le = V.le := rfl
theorem mv_ps_wKp {V : MV} {x : Nat → Int32} : (V.wKp x).ps = V.ps := rfl
theorem mv_cm_wKp {V : MV} {x : Nat → Int32} : (V.wKp x).cm = V.cm := rfl
theorem mv_fa_wKp {V : MV} {x : Nat → Int32} : (V.wKp x).fa = V.fa := rfl
theorem mv_re_wKp {V : MV} {x : Nat → Int32} : (V.wKp x).re = V.re := rfl
theorem mv_de_wKp {V : MV} {x : Nat → Int32} : (V.wKp x).de = V.de := rfl
theorem mv_an_wKp {V : MV} {x : Nat → Int32} : (V.wKp x).an = V.an := rfl
theorem mv_th_wKp {V : MV} {x : Nat → Int32} : (V.wKp x).th = V.th := rfl
theorem mv_nw_wSv {V : MV} {x : Nat → Int32} : (V.wSv x).nw = V.nw := rfl
theorem mv_tr_wSv {V : MV} {x : Nat → Int32} : (V.wSv x).tr = V.tr := rfl
theorem mv_kp_wSv {V : MV} {x : Nat → Int32} : (V.wSv x).kp = V.kp := rfl
theorem mv_sv_wSv {V : MV} {x : Nat → Int32} : (V.wSv x).sv = x := rfl
theorem mv_mv_wSv {V : MV} {x : Nat → Int32} : (V.wSv x).mv = V.mv := rfl
theorem mv_ln_wSv {V : MV} {x : Nat → Int32} : (V.wSv x).ln = V.ln := rfl
theorem mv_tx_wSv {V : MV} {x : Nat → Int32} : (V.wSv x).tx = V.tx := rfl
theorem mv_to_wSv {V : MV} {x : Nat → Int32} : (V.wSv x).to = V.to := rfl
theorem mv_un_wSv {V : MV} {x : Nat → Int32} : (V.wSv x).un = V.un := rfl
theorem mv_is_wSv {V : MV} {x : Nat → Int32} : (V.wSv x).is = V.is := rfl
theorem mv_ld_wSv {V : MV} {x : Nat → Int32} : (V.wSv x).ld = V.ld := rfl
theorem mv_le_wSv {V : MV} {x : Nat → Int32} : (V.wSv x).le = V.le := rfl
theorem mv_ps_wSv {V : MV} {x : Nat → Int32} : (V.wSv x).ps = V.ps := rfl
theorem mv_cm_wSv {V : MV} {x : Nat → Int32} : (V.wSv x).cm = V.cm := rfl
theorem mv_fa_wSv {V : MV} {x : Nat → Int32} : (V.wSv x).fa = V.fa := rfl
theorem mv_re_wSv {V : MV} {x : Nat → Int32} : (V.wSv x).re = V.re := rfl
theorem mv_de_wSv {V : MV} {x : Nat → Int32} : (V.wSv x).de = V.de := rfl
theorem mv_an_wSv {V : MV} {x : Nat → Int32} : (V.wSv x).an = V.an := rfl
theorem mv_th_wSv {V : MV} {x : Nat → Int32} : (V.wSv x).th = V.th := rfl
theorem mv_nw_wMv {V : MV} {x : Nat → Int32} : (V.wMv x).nw = V.nw := rfl
theorem mv_tr_wMv {V : MV} {x : Nat → Int32} : (V.wMv x).tr = V.tr := rfl
theorem mv_kp_wMv {V : MV} {x : Nat → Int32} : (V.wMv x).kp = V.kp := rfl
theorem mv_sv_wMv {V : MV} {x : Nat → Int32} : (V.wMv x).sv = V.sv := rfl
theorem mv_mv_wMv {V : MV} {x : Nat → Int32} : (V.wMv x).mv = x := rfl
theorem mv_ln_wMv {V : MV} {x : Nat → Int32} : (V.wMv x).ln = V.ln := rfl
theorem mv_tx_wMv {V : MV} {x : Nat → Int32} : (V.wMv x).tx = V.tx := rfl
theorem mv_to_wMv {V : MV} {x : Nat → Int32} : (V.wMv x).to = V.to := rfl
theorem mv_un_wMv {V : MV} {x : Nat → Int32} : (V.wMv x).un = V.un := rfl
theorem mv_is_wMv {V : MV} {x : Nat → Int32} : (V.wMv x).is = V.is := rfl
theorem mv_ld_wMv {V : MV} {x : Nat → Int32} : (V.wMv x).ld = V.ld := rfl
theorem mv_le_wMv {V : MV} {x : Nat → Int32} : (V.wMv x).le = V.le := rfl
theorem mv_ps_wMv {V : MV} {x : Nat → Int32} : (V.wMv x).ps = V.ps := rfl
theorem mv_cm_wMv {V : MV} {x : Nat → Int32} : (V.wMv x).cm = V.cm := rfl
theorem mv_fa_wMv {V : MV} {x : Nat → Int32} : (V.wMv x).fa = V.fa := rfl
theorem mv_re_wMv {V : MV} {x : Nat → Int32} : (V.wMv x).re = V.re := rfl
theorem mv_de_wMv {V : MV} {x : Nat → Int32} : (V.wMv x).de = V.de := rfl
theorem mv_an_wMv {V : MV} {x : Nat → Int32} : (V.wMv x).an = V.an := rfl
theorem mv_th_wMv {V : MV} {x : Nat → Int32} : (V.wMv x).th = V.th := rfl
theorem mv_nw_wLn {V : MV} {x : Nat → Int32} : (V.wLn x).nw = V.nw := rfl
theorem mv_tr_wLn {V : MV} {x : Nat → Int32} : (V.wLn x).tr = V.tr := rfl
theorem mv_kp_wLn {V : MV} {x : Nat → Int32} : (V.wLn x).kp = V.kp := rfl
theorem mv_sv_wLn {V : MV} {x : Nat → Int32} : (V.wLn x).sv = V.sv := rfl
theorem mv_mv_wLn {V : MV} {x : Nat → Int32} : (V.wLn x).mv = V.mv := rfl
theorem mv_ln_wLn {V : MV} {x : Nat → Int32} : (V.wLn x).ln = x := rfl
theorem mv_tx_wLn {V : MV} {x : Nat → Int32} : (V.wLn x).tx = V.tx := rfl
theorem mv_to_wLn {V : MV} {x : Nat → Int32} : (V.wLn x).to = V.to := rfl
theorem mv_un_wLn {V : MV} {x : Nat → Int32} : (V.wLn x).un = V.un := rfl
theorem mv_is_wLn {V : MV} {x : Nat → Int32} : (V.wLn x).is = V.is := rfl
theorem mv_ld_wLn {V : MV} {x : Nat → Int32} : (V.wLn x).ld = V.ld := rfl
theorem mv_le_wLn {V : MV} {x : Nat → Int32} : (V.wLn x).le = V.le := rfl
theorem mv_ps_wLn {V : MV} {x : Nat → Int32} : (V.wLn x).ps = V.ps := rfl
theorem mv_cm_wLn {V : MV} {x : Nat → Int32} : (V.wLn x).cm = V.cm := rfl
theorem mv_fa_wLn {V : MV} {x : Nat → Int32} : (V.wLn x).fa = V.fa := rfl
theorem mv_re_wLn {V : MV} {x : Nat → Int32} : (V.wLn x).re = V.re := rfl
theorem mv_de_wLn {V : MV} {x : Nat → Int32} : (V.wLn x).de = V.de := rfl
theorem mv_an_wLn {V : MV} {x : Nat → Int32} : (V.wLn x).an = V.an := rfl
theorem mv_th_wLn {V : MV} {x : Nat → Int32} : (V.wLn x).th = V.th := rfl
theorem mv_nw_wTx {V : MV} {x : Nat → Int32} : (V.wTx x).nw = V.nw := rfl
theorem mv_tr_wTx {V : MV} {x : Nat → Int32} : (V.wTx x).tr = V.tr := rfl
theorem mv_kp_wTx {V : MV} {x : Nat → Int32} : (V.wTx x).kp = V.kp := rfl
theorem mv_sv_wTx {V : MV} {x : Nat → Int32} : (V.wTx x).sv = V.sv := rfl
theorem mv_mv_wTx {V : MV} {x : Nat → Int32} : (V.wTx x).mv = V.mv := rfl
theorem mv_ln_wTx {V : MV} {x : Nat → Int32} : (V.wTx x).ln = V.ln := rfl
theorem mv_tx_wTx {V : MV} {x : Nat → Int32} : (V.wTx x).tx = x := rfl
theorem mv_to_wTx {V : MV} {x : Nat → Int32} : (V.wTx x).to = V.to := rfl
theorem mv_un_wTx {V : MV} {x : Nat → Int32} : (V.wTx x).un = V.un := rfl
theorem mv_is_wTx {V : MV} {x : Nat → Int32} : (V.wTx x).is = V.is := rfl
theorem mv_ld_wTx {V : MV} {x : Nat → Int32} : (V.wTx x).ld = V.ld := rfl
theorem mv_le_wTx {V : MV} {x : Nat → Int32} : (V.wTx x).le = V.le := rfl
theorem mv_ps_wTx {V : MV} {x : Nat → Int32} : (V.wTx x).ps = V.ps := rfl
theorem mv_cm_wTx {V : MV} {x : Nat → Int32} : (V.wTx x).cm = V.cm := rfl
theorem mv_fa_wTx {V : MV} {x : Nat → Int32} : (V.wTx x).fa = V.fa := rfl
theorem mv_re_wTx {V : MV} {x : Nat → Int32} : (V.wTx x).re = V.re := rfl
theorem mv_de_wTx {V : MV} {x : Nat → Int32} : (V.wTx x).de = V.de := rfl
theorem mv_an_wTx {V : MV} {x : Nat → Int32} : (V.wTx x).an = V.an := rfl
theorem mv_th_wTx {V : MV} {x : Nat → Int32} : (V.wTx x).th = V.th := rfl
theorem mv_nw_wTo {V : MV} {x : Nat → Int32} : (V.wTo x).nw = V.nw := rfl
theorem mv_tr_wTo {V : MV} {x : Nat → Int32} : (V.wTo x).tr = V.tr := rfl
theorem mv_kp_wTo {V : MV} {x : Nat → Int32} : (V.wTo x).kp = V.kp := rfl
theorem mv_sv_wTo {V : MV} {x : Nat → Int32} : (V.wTo x).sv = V.sv := rfl
theorem mv_mv_wTo {V : MV} {x : Nat → Int32} : (V.wTo x).mv = V.mv := rfl
theorem mv_ln_wTo {V : MV} {x : Nat → Int32} : (V.wTo x).ln = V.ln := rfl
theorem mv_tx_wTo {V : MV} {x : Nat → Int32} : (V.wTo x).tx = V.tx := rfl
theorem mv_to_wTo {V : MV} {x : Nat → Int32} : (V.wTo x).to = x := rfl
theorem mv_un_wTo {V : MV} {x : Nat → Int32} : (V.wTo x).un = V.un := rfl
theorem mv_is_wTo {V : MV} {x : Nat → Int32} : (V.wTo x).is = V.is := rfl
theorem mv_ld_wTo {V : MV} {x : Nat → Int32} : (V.wTo x).ld = V.ld := rfl
theorem mv_le_wTo {V : MV} {x : Nat → Int32} : (V.wTo x).le = V.le := rfl
theorem mv_ps_wTo {V : MV} {x : Nat → Int32} : (V.wTo x).ps = V.ps := rfl
theorem mv_cm_wTo {V : MV} {x : Nat → Int32} : (V.wTo x).cm = V.cm := rfl
theorem mv_fa_wTo {V : MV} {x : Nat → Int32} : (V.wTo x).fa = V.fa := rfl
theorem mv_re_wTo {V : MV} {x : Nat → Int32} : (V.wTo x).re = V.re := rfl
theorem mv_de_wTo {V : MV} {x : Nat → Int32} : (V.wTo x).de = V.de := rfl
theorem mv_an_wTo {V : MV} {x : Nat → Int32} : (V.wTo x).an = V.an := rfl
theorem mv_th_wTo {V : MV} {x : Nat → Int32} : (V.wTo x).th = V.th := rfl
theorem mv_nw_wUn {V : MV} {x : Int32} : (V.wUn x).nw = V.nw := rfl
theorem mv_tr_wUn {V : MV} {x : Int32} : (V.wUn x).tr = V.tr := rfl
theorem mv_kp_wUn {V : MV} {x : Int32} : (V.wUn x).kp = V.kp := rfl
theorem mv_sv_wUn {V : MV} {x : Int32} : (V.wUn x).sv = V.sv := rfl
theorem mv_mv_wUn {V : MV} {x : Int32} : (V.wUn x).mv = V.mv := rfl
theorem mv_ln_wUn {V : MV} {x : Int32} : (V.wUn x).ln = V.ln := rfl
theorem mv_tx_wUn {V : MV} {x : Int32} : (V.wUn x).tx = V.tx := rfl
theorem mv_to_wUn {V : MV} {x : Int32} : (V.wUn x).to = V.to := rfl
theorem mv_un_wUn {V : MV} {x : Int32} : (V.wUn x).un = x := rfl
theorem mv_is_wUn {V : MV} {x : Int32} : (V.wUn x).is = V.is := rfl
theorem mv_ld_wUn {V : MV} {x : Int32} : (V.wUn x).ld = V.ld := rfl
theorem mv_le_wUn {V : MV} {x : Int32} : (V.wUn x).le = V.le := rfl
theorem mv_ps_wUn {V : MV} {x : Int32} : (V.wUn x).ps = V.ps := rfl
theorem mv_cm_wUn {V : MV} {x : Int32} : (V.wUn x).cm = V.cm := rfl
theorem mv_fa_wUn {V : MV} {x : Int32} : (V.wUn x).fa = V.fa := rfl
theorem mv_re_wUn {V : MV} {x : Int32} : (V.wUn x).re = V.re := rfl
theorem mv_de_wUn {V : MV} {x : Int32} : (V.wUn x).de = V.de := rfl
theorem mv_an_wUn {V : MV} {x : Int32} : (V.wUn x).an = V.an := rfl
theorem mv_th_wUn {V : MV} {x : Int32} : (V.wUn x).th = V.th := rfl
theorem mv_nw_wIs {V : MV} {x : Int32} : (V.wIs x).nw = V.nw := rfl
theorem mv_tr_wIs {V : MV} {x : Int32} : (V.wIs x).tr = V.tr := rfl
theorem mv_kp_wIs {V : MV} {x : Int32} : (V.wIs x).kp = V.kp := rfl
theorem mv_sv_wIs {V : MV} {x : Int32} : (V.wIs x).sv = V.sv := rfl
theorem mv_mv_wIs {V : MV} {x : Int32} : (V.wIs x).mv = V.mv := rfl
theorem mv_ln_wIs {V : MV} {x : Int32} : (V.wIs x).ln = V.ln := rfl
theorem mv_tx_wIs {V : MV} {x : Int32} : (V.wIs x).tx = V.tx := rfl
theorem mv_to_wIs {V : MV} {x : Int32} : (V.wIs x).to = V.to := rfl
theorem mv_un_wIs {V : MV} {x : Int32} : (V.wIs x).un = V.un := rfl
theorem mv_is_wIs {V : MV} {x : Int32} : (V.wIs x).is = x := rfl
theorem mv_ld_wIs {V : MV} {x : Int32} : (V.wIs x).ld = V.ld := rfl
theorem mv_le_wIs {V : MV} {x : Int32} : (V.wIs x).le = V.le := rfl
theorem mv_ps_wIs {V : MV} {x : Int32} : (V.wIs x).ps = V.ps := rfl
theorem mv_cm_wIs {V : MV} {x : Int32} : (V.wIs x).cm = V.cm := rfl
theorem mv_fa_wIs {V : MV} {x : Int32} : (V.wIs x).fa = V.fa := rfl
theorem mv_re_wIs {V : MV} {x : Int32} : (V.wIs x).re = V.re := rfl
theorem mv_de_wIs {V : MV} {x : Int32} : (V.wIs x).de = V.de := rfl
theorem mv_an_wIs {V : MV} {x : Int32} : (V.wIs x).an = V.an := rfl
theorem mv_th_wIs {V : MV} {x : Int32} : (V.wIs x).th = V.th := rfl
theorem mv_nw_wLd {V : MV} {x : Int32} : (V.wLd x).nw = V.nw := rfl
theorem mv_tr_wLd {V : MV} {x : Int32} : (V.wLd x).tr = V.tr := rfl
theorem mv_kp_wLd {V : MV} {x : Int32} : (V.wLd x).kp = V.kp := rfl
theorem mv_sv_wLd {V : MV} {x : Int32} : (V.wLd x).sv = V.sv := rfl
theorem mv_mv_wLd {V : MV} {x : Int32} : (V.wLd x).mv = V.mv := rfl
theorem mv_ln_wLd {V : MV} {x : Int32} : (V.wLd x).ln = V.ln := rfl
theorem mv_tx_wLd {V : MV} {x : Int32} : (V.wLd x).tx = V.tx := rfl
theorem mv_to_wLd {V : MV} {x : Int32} : (V.wLd x).to = V.to := rfl
theorem mv_un_wLd {V : MV} {x : Int32} : (V.wLd x).un = V.un := rfl
theorem mv_is_wLd {V : MV} {x : Int32} : (V.wLd x).is = V.is := rfl
theorem mv_ld_wLd {V : MV} {x : Int32} : (V.wLd x).ld = x := rfl
theorem mv_le_wLd {V : MV} {x : Int32} : (V.wLd x).le = V.le := rfl
theorem mv_ps_wLd {V : MV} {x : Int32} : (V.wLd x).ps = V.ps := rfl
theorem mv_cm_wLd {V : MV} {x : Int32} : (V.wLd x).cm = V.cm := rfl
theorem mv_fa_wLd {V : MV} {x : Int32} : (V.wLd x).fa = V.fa := rfl
theorem mv_re_wLd {V : MV} {x : Int32} : (V.wLd x).re = V.re := rfl
theorem mv_de_wLd {V : MV} {x : Int32} : (V.wLd x).de = V.de := rfl
theorem mv_an_wLd {V : MV} {x : Int32} : (V.wLd x).an = V.an := rfl
theorem mv_th_wLd {V : MV} {x : Int32} : (V.wLd x).th = V.th := rfl
theorem mv_nw_wLe {V : MV} {x : Int32} : (V.wLe x).nw = V.nw := rfl
theorem mv_tr_wLe {V : MV} {x : Int32} : (V.wLe x).tr = V.tr := rfl
theorem mv_kp_wLe {V : MV} {x : Int32} : (V.wLe x).kp = V.kp := rfl
theorem mv_sv_wLe {V : MV} {x : Int32} : (V.wLe x).sv = V.sv := rfl
theorem mv_mv_wLe {V : MV} {x : Int32} : (V.wLe x).mv = V.mv := rfl
theorem mv_ln_wLe {V : MV} {x : Int32} : (V.wLe x).ln = V.ln := rfl
theorem mv_tx_wLe {V : MV} {x : Int32} : (V.wLe x).tx = V.tx := rfl
theorem mv_to_wLe {V : MV} {x : Int32} : (V.wLe x).to = V.to := rfl
theorem mv_un_wLe {V : MV} {x : Int32} : (V.wLe x).un = V.un := rfl
theorem mv_is_wLe {V : MV} {x : Int32} : (V.wLe x).is = V.is := rfl
theorem mv_ld_wLe {V : MV} {x : Int32} : (V.wLe x).ld = V.ld := rfl
theorem mv_le_wLe {V : MV} {x : Int32} : (V.wLe x).le = x := rfl
theorem mv_ps_wLe {V : MV} {x : Int32} : (V.wLe x).ps = V.ps := rfl
theorem mv_cm_wLe {V : MV} {x : Int32} : (V.wLe x).cm = V.cm := rfl
theorem mv_fa_wLe {V : MV} {x : Int32} : (V.wLe x).fa = V.fa := rfl
theorem mv_re_wLe {V : MV} {x : Int32} : (V.wLe x).re = V.re := rfl
theorem mv_de_wLe {V : MV} {x : Int32} : (V.wLe x).de = V.de := rfl
theorem mv_an_wLe {V : MV} {x : Int32} : (V.wLe x).an = V.an := rfl
theorem mv_th_wLe {V : MV} {x : Int32} : (V.wLe x).th = V.th := rfl
theorem mv_nw_wPs {V : MV} {x : Int32} : (V.wPs x).nw = V.nw := rfl
theorem mv_tr_wPs {V : MV} {x : Int32} : (V.wPs x).tr = V.tr := rfl
theorem mv_kp_wPs {V : MV} {x : Int32} : (V.wPs x).kp = V.kp := rfl
theorem mv_sv_wPs {V : MV} {x : Int32} : (V.wPs x).sv = V.sv := rfl
theorem mv_mv_wPs {V : MV} {x : Int32} : (V.wPs x).mv = V.mv := rfl
theorem mv_ln_wPs {V : MV} {x : Int32} : (V.wPs x).ln = V.ln := rfl
theorem mv_tx_wPs {V : MV} {x : Int32} : (V.wPs x).tx = V.tx := rfl
theorem mv_to_wPs {V : MV} {x : Int32} : (V.wPs x).to = V.to := rfl
theorem mv_un_wPs {V : MV} {x : Int32} : (V.wPs x).un = V.un := rfl
theorem mv_is_wPs {V : MV} {x : Int32} : (V.wPs x).is = V.is := rfl
theorem mv_ld_wPs {V : MV} {x : Int32} : (V.wPs x).ld = V.ld := rfl
theorem mv_le_wPs {V : MV} {x : Int32} : (V.wPs x).le = V.le := rfl
theorem mv_ps_wPs {V : MV} {x : Int32} : (V.wPs x).ps = x := rfl
theorem mv_cm_wPs {V : MV} {x : Int32} : (V.wPs x).cm = V.cm := rfl
theorem mv_fa_wPs {V : MV} {x : Int32} : (V.wPs x).fa = V.fa := rfl
theorem mv_re_wPs {V : MV} {x : Int32} : (V.wPs x).re = V.re := rfl
theorem mv_de_wPs {V : MV} {x : Int32} : (V.wPs x).de = V.de := rfl
theorem mv_an_wPs {V : MV} {x : Int32} : (V.wPs x).an = V.an := rfl
theorem mv_th_wPs {V : MV} {x : Int32} : (V.wPs x).th = V.th := rfl
theorem mv_nw_wCm {V : MV} {x : Int32} : (V.wCm x).nw = V.nw := rfl
theorem mv_tr_wCm {V : MV} {x : Int32} : (V.wCm x).tr = V.tr := rfl
theorem mv_kp_wCm {V : MV} {x : Int32} : (V.wCm x).kp = V.kp := rfl
theorem mv_sv_wCm {V : MV} {x : Int32} : (V.wCm x).sv = V.sv := rfl
theorem mv_mv_wCm {V : MV} {x : Int32} : (V.wCm x).mv = V.mv := rfl
theorem mv_ln_wCm {V : MV} {x : Int32} : (V.wCm x).ln = V.ln := rfl
theorem mv_tx_wCm {V : MV} {x : Int32} : (V.wCm x).tx = V.tx := rfl
theorem mv_to_wCm {V : MV} {x : Int32} : (V.wCm x).to = V.to := rfl
theorem mv_un_wCm {V : MV} {x : Int32} : (V.wCm x).un = V.un := rfl
theorem mv_is_wCm {V : MV} {x : Int32} : (V.wCm x).is = V.is := rfl
theorem mv_ld_wCm {V : MV} {x : Int32} : (V.wCm x).ld = V.ld := rfl
theorem mv_le_wCm {V : MV} {x : Int32} : (V.wCm x).le = V.le := rfl
theorem mv_ps_wCm {V : MV} {x : Int32} : (V.wCm x).ps = V.ps := rfl
theorem mv_cm_wCm {V : MV} {x : Int32} : (V.wCm x).cm = x := rfl
theorem mv_fa_wCm {V : MV} {x : Int32} : (V.wCm x).fa = V.fa := rfl
theorem mv_re_wCm {V : MV} {x : Int32} : (V.wCm x).re = V.re := rfl
theorem mv_de_wCm {V : MV} {x : Int32} : (V.wCm x).de = V.de := rfl
theorem mv_an_wCm {V : MV} {x : Int32} : (V.wCm x).an = V.an := rfl
theorem mv_th_wCm {V : MV} {x : Int32} : (V.wCm x).th = V.th := rfl
theorem mv_nw_wFa {V : MV} {x : Int32} : (V.wFa x).nw = V.nw := rfl
theorem mv_tr_wFa {V : MV} {x : Int32} : (V.wFa x).tr = V.tr := rfl
theorem mv_kp_wFa {V : MV} {x : Int32} : (V.wFa x).kp = V.kp := rfl
theorem mv_sv_wFa {V : MV} {x : Int32} : (V.wFa x).sv = V.sv := rfl
theorem mv_mv_wFa {V : MV} {x : Int32} : (V.wFa x).mv = V.mv := rfl
theorem mv_ln_wFa {V : MV} {x : Int32} : (V.wFa x).ln = V.ln := rfl
theorem mv_tx_wFa {V : MV} {x : Int32} : (V.wFa x).tx = V.tx := rfl
theorem mv_to_wFa {V : MV} {x : Int32} : (V.wFa x).to = V.to := rfl
theorem mv_un_wFa {V : MV} {x : Int32} : (V.wFa x).un = V.un := rfl
theorem mv_is_wFa {V : MV} {x : Int32} : (V.wFa x).is = V.is := rfl
theorem mv_ld_wFa {V : MV} {x : Int32} : (V.wFa x).ld = V.ld := rfl
theorem mv_le_wFa {V : MV} {x : Int32} : (V.wFa x).le = V.le := rfl
theorem mv_ps_wFa {V : MV} {x : Int32} : (V.wFa x).ps = V.ps := rfl
theorem mv_cm_wFa {V : MV} {x : Int32} : (V.wFa x).cm = V.cm := rfl
theorem mv_fa_wFa {V : MV} {x : Int32} : (V.wFa x).fa = x := rfl
theorem mv_re_wFa {V : MV} {x : Int32} : (V.wFa x).re = V.re := rfl
theorem mv_de_wFa {V : MV} {x : Int32} : (V.wFa x).de = V.de := rfl
theorem mv_an_wFa {V : MV} {x : Int32} : (V.wFa x).an = V.an := rfl
theorem mv_th_wFa {V : MV} {x : Int32} : (V.wFa x).th = V.th := rfl
theorem mv_nw_wRe {V : MV} {x : Int32} : (V.wRe x).nw = V.nw := rfl
theorem mv_tr_wRe {V : MV} {x : Int32} : (V.wRe x).tr = V.tr := rfl
theorem mv_kp_wRe {V : MV} {x : Int32} : (V.wRe x).kp = V.kp := rfl
theorem mv_sv_wRe {V : MV} {x : Int32} : (V.wRe x).sv = V.sv := rfl
theorem mv_mv_wRe {V : MV} {x : Int32} : (V.wRe x).mv = V.mv := rfl
theorem mv_ln_wRe {V : MV} {x : Int32} : (V.wRe x).ln = V.ln := rfl
theorem mv_tx_wRe {V : MV} {x : Int32} : (V.wRe x).tx = V.tx := rfl
theorem mv_to_wRe {V : MV} {x : Int32} : (V.wRe x).to = V.to := rfl
theorem mv_un_wRe {V : MV} {x : Int32} : (V.wRe x).un = V.un := rfl
theorem mv_is_wRe {V : MV} {x : Int32} : (V.wRe x).is = V.is := rfl
theorem mv_ld_wRe {V : MV} {x : Int32} : (V.wRe x).ld = V.ld := rfl
theorem mv_le_wRe {V : MV} {x : Int32} : (V.wRe x).le = V.le := rfl
theorem mv_ps_wRe {V : MV} {x : Int32} : (V.wRe x).ps = V.ps := rfl
theorem mv_cm_wRe {V : MV} {x : Int32} : (V.wRe x).cm = V.cm := rfl
theorem mv_fa_wRe {V : MV} {x : Int32} : (V.wRe x).fa = V.fa := rfl
theorem mv_re_wRe {V : MV} {x : Int32} : (V.wRe x).re = x := rfl
theorem mv_de_wRe {V : MV} {x : Int32} : (V.wRe x).de = V.de := rfl
theorem mv_an_wRe {V : MV} {x : Int32} : (V.wRe x).an = V.an := rfl
theorem mv_th_wRe {V : MV} {x : Int32} : (V.wRe x).th = V.th := rfl
theorem mv_nw_wDe {V : MV} {x : Int32} : (V.wDe x).nw = V.nw := rfl
theorem mv_tr_wDe {V : MV} {x : Int32} : (V.wDe x).tr = V.tr := rfl
theorem mv_kp_wDe {V : MV} {x : Int32} : (V.wDe x).kp = V.kp := rfl
theorem mv_sv_wDe {V : MV} {x : Int32} : (V.wDe x).sv = V.sv := rfl
theorem mv_mv_wDe {V : MV} {x : Int32} : (V.wDe x).mv = V.mv := rfl
theorem mv_ln_wDe {V : MV} {x : Int32} : (V.wDe x).ln = V.ln := rfl
theorem mv_tx_wDe {V : MV} {x : Int32} : (V.wDe x).tx = V.tx := rfl
theorem mv_to_wDe {V : MV} {x : Int32} : (V.wDe x).to = V.to := rfl
theorem mv_un_wDe {V : MV} {x : Int32} : (V.wDe x).un = V.un := rfl
theorem mv_is_wDe {V : MV} {x : Int32} : (V.wDe x).is = V.is := rfl
theorem mv_ld_wDe {V : MV} {x : Int32} : (V.wDe x).ld = V.ld := rfl
theorem mv_le_wDe {V : MV} {x : Int32} : (V.wDe x).le = V.le := rfl
theorem mv_ps_wDe {V : MV} {x : Int32} : (V.wDe x).ps = V.ps := rfl
theorem mv_cm_wDe {V : MV} {x : Int32} : (V.wDe x).cm = V.cm := rfl
theorem mv_fa_wDe {V : MV} {x : Int32} : (V.wDe x).fa = V.fa := rfl
theorem mv_re_wDe {V : MV} {x : Int32} : (V.wDe x).re = V.re := rfl
theorem mv_de_wDe {V : MV} {x : Int32} : (V.wDe x).de = x := rfl
theorem mv_an_wDe {V : MV} {x : Int32} : (V.wDe x).an = V.an := rfl
theorem mv_th_wDe {V : MV} {x : Int32} : (V.wDe x).th = V.th := rfl
theorem mv_nw_wAn {V : MV} {x : Int32} : (V.wAn x).nw = V.nw := rfl
theorem mv_tr_wAn {V : MV} {x : Int32} : (V.wAn x).tr = V.tr := rfl
theorem mv_kp_wAn {V : MV} {x : Int32} : (V.wAn x).kp = V.kp := rfl
theorem mv_sv_wAn {V : MV} {x : Int32} : (V.wAn x).sv = V.sv := rfl
theorem mv_mv_wAn {V : MV} {x : Int32} : (V.wAn x).mv = V.mv := rfl
theorem mv_ln_wAn {V : MV} {x : Int32} : (V.wAn x).ln = V.ln := rfl
theorem mv_tx_wAn {V : MV} {x : Int32} : (V.wAn x).tx = V.tx := rfl
theorem mv_to_wAn {V : MV} {x : Int32} : (V.wAn x).to = V.to := rfl
theorem mv_un_wAn {V : MV} {x : Int32} : (V.wAn x).un = V.un := rfl
theorem mv_is_wAn {V : MV} {x : Int32} : (V.wAn x).is = V.is := rfl
theorem mv_ld_wAn {V : MV} {x : Int32} : (V.wAn x).ld = V.ld := rfl
theorem mv_le_wAn {V : MV} {x : Int32} : (V.wAn x).le = V.le := rfl
theorem mv_ps_wAn {V : MV} {x : Int32} : (V.wAn x).ps = V.ps := rfl
theorem mv_cm_wAn {V : MV} {x : Int32} : (V.wAn x).cm = V.cm := rfl
theorem mv_fa_wAn {V : MV} {x : Int32} : (V.wAn x).fa = V.fa := rfl
theorem mv_re_wAn {V : MV} {x : Int32} : (V.wAn x).re = V.re := rfl
theorem mv_de_wAn {V : MV} {x : Int32} : (V.wAn x).de = V.de := rfl
theorem mv_an_wAn {V : MV} {x : Int32} : (V.wAn x).an = x := rfl
theorem mv_th_wAn {V : MV} {x : Int32} : (V.wAn x).th = V.th := rfl
theorem mv_nw_wTh {V : MV} {x : Int32} : (V.wTh x).nw = V.nw := rfl
theorem mv_tr_wTh {V : MV} {x : Int32} : (V.wTh x).tr = V.tr := rfl
theorem mv_kp_wTh {V : MV} {x : Int32} : (V.wTh x).kp = V.kp := rfl
theorem mv_sv_wTh {V : MV} {x : Int32} : (V.wTh x).sv = V.sv := rfl
theorem mv_mv_wTh {V : MV} {x : Int32} : (V.wTh x).mv = V.mv := rfl
theorem mv_ln_wTh {V : MV} {x : Int32} : (V.wTh x).ln = V.ln := rfl
theorem mv_tx_wTh {V : MV} {x : Int32} : (V.wTh x).tx = V.tx := rfl
theorem mv_to_wTh {V : MV} {x : Int32} : (V.wTh x).to = V.to := rfl
theorem mv_un_wTh {V : MV} {x : Int32} : (V.wTh x).un = V.un := rfl
theorem mv_is_wTh {V : MV} {x : Int32} : (V.wTh x).is = V.is := rfl
theorem mv_ld_wTh {V : MV} {x : Int32} : (V.wTh x).ld = V.ld := rfl
theorem mv_le_wTh {V : MV} {x : Int32} : (V.wTh x).le = V.le := rfl
theorem mv_ps_wTh {V : MV} {x : Int32} : (V.wTh x).ps = V.ps := rfl
theorem mv_cm_wTh {V : MV} {x : Int32} : (V.wTh x).cm = V.cm := rfl
theorem mv_fa_wTh {V : MV} {x : Int32} : (V.wTh x).fa = V.fa := rfl
theorem mv_re_wTh {V : MV} {x : Int32} : (V.wTh x).re = V.re := rfl
theorem mv_de_wTh {V : MV} {x : Int32} : (V.wTh x).de = V.de := rfl
theorem mv_an_wTh {V : MV} {x : Int32} : (V.wTh x).an = V.an := rfl
theorem mv_th_wTh {V : MV} {x : Int32} : (V.wTh x).th = x := rfl
theorem Mr.eqv {N : Nat} {F G : Fy} {V V' : MV} (h : Mr N F V) (hG : G.rv = F.rv ∧ G.pa = F.pa ∧ G.ip = F.ip ∧ G.li = F.li ∧ G.sv = F.sv) (e1 : V'.nw = V.nw) (e2 : V'.kp = V.kp) (e3 : V'.un = V.un) (e4 : V'.le = V.le) (e5 : V'.tx = V.tx) (e6 : V'.ld = V.ld) (e7 : V'.ln = V.ln) (e8 : V'.fa = G.fa) (e9 : V'.re = G.re) (e10 : V'.de = G.de) (e11 : V'.is = V.is) (e12 : V'.sv = V.sv) : Mr N G V' := by
  obtain ⟨q1, q2, q3, q4, q5⟩ := hG
  unfold Mr
  rw [e1, e2, e3, e4, e5, e6, e7, e11, e12, q1, q2, q3, q4, q5]
  exact ⟨h.1, h.2.1, h.2.2.1, h.2.2.2.1, h.2.2.2.2.1, h.2.2.2.2.2.1, h.2.2.2.2.2.2.1, e8, e9, e10, h.2.2.2.2.2.2.2.2.2.2⟩
theorem Mr.efa {N : Nat} {F : Fy} {V : MV} (h : Mr N F V) : V.fa = F.fa := h.2.2.2.2.2.2.2.1
theorem Mr.ere {N : Nat} {F : Fy} {V : MV} (h : Mr N F V) : V.re = F.re := h.2.2.2.2.2.2.2.2.1
theorem Mr.ede {N : Nat} {F : Fy} {V : MV} (h : Mr N F V) : V.de = F.de := h.2.2.2.2.2.2.2.2.2.1
theorem Mr.esv {N : Nat} {F : Fy} {V : MV} (h : Mr N F V) : (F.sv = none ∧ V.is = 0) ∨ ∃ S, F.sv = some S ∧ V.is = 1 ∧ Rep N S V.sv := h.2.2.2.2.2.2.2.2.2.2
