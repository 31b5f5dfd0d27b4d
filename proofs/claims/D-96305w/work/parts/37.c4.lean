set_option maxRecDepth 100000
theorem mg_rW_pW_1 {aT : Nat → ClassId} {ad : Nat → Nat} {v_many : Int32} {v_pets : Int32} {v_last : Int32} {v_seed : Int32} {v_weight : Int32} {v_fright : Int32} {v_age : Int32} {v_asked : Nat → Int32} {v_homes : Nat → Option Nat} {v_marks : Nat → Int32} {v_had : Nat → Int32} {v_allergic : Nat → Int32} {v_deaths : Nat → Int32} {u_weight : Int32} {u_fright : Int32} {u_age : Int32} {u_asked : Nat → Int32} : mergeAt (rW aT ad v_many v_pets v_last v_seed v_weight v_fright v_age v_asked v_homes v_marks v_had v_allergic v_deaths) [1, 2] (pW aT (fun i => ad (1 + i)) u_weight u_fright u_age u_asked) = (rW aT ad v_many v_pets v_last v_seed u_weight u_fright u_age u_asked v_homes v_marks v_had v_allergic v_deaths) := rfl
theorem sub_rW_pW_1 {aT : Nat → ClassId} {ad : Nat → Nat} {v_many : Int32} {v_pets : Int32} {v_last : Int32} {v_seed : Int32} {v_weight : Int32} {v_fright : Int32} {v_age : Int32} {v_asked : Nat → Int32} {v_homes : Nat → Option Nat} {v_marks : Nat → Int32} {v_had : Nat → Int32} {v_allergic : Nat → Int32} {v_deaths : Nat → Int32} : ([1, 2] : List Nat).filterMap (fun i => (rW aT ad v_many v_pets v_last v_seed v_weight v_fright v_age v_asked v_homes v_marks v_had v_allergic v_deaths)[i]?) = (pW aT (fun i => ad (1 + i)) v_weight v_fright v_age v_asked) := rfl
theorem mg_xW_rW_18 {aT : Nat → ClassId} {ad : Nat → Nat} {v_latestFault : Int32} {v_died : Int32} {v_leastWeight : Int32} {v_noticedBy : Int32} {v_noticed : Int32} {v_orderDied : Int32} {v_orderLeast : Int32} {v_imaged : Option Nat} {v_shelves : Nat → Option Nat} {v_refusals : Nat → Int32} {v_ran : Int32} {v_bodies : Nat → Int32} {v_tweight : Int32} {v_tfright : Int32} {v_tage : Int32} {v_tasked : Nat → Int32} {v_told : Nat → Int32} {v_bestRow : Nat → Int32} {v_weight_a1 : Int32} {v_fright_a1 : Int32} {v_age_a1 : Int32} {v_asked_a1 : Nat → Int32} {v_weight_a2 : Int32} {v_fright_a2 : Int32} {v_age_a2 : Int32} {v_asked_a2 : Nat → Int32} {v_weight_a3 : Int32} {v_fright_a3 : Int32} {v_age_a3 : Int32} {v_asked_a3 : Nat → Int32} {v_weight_a4 : Int32} {v_fright_a4 : Int32} {v_age_a4 : Int32} {v_asked_a4 : Nat → Int32} {v_many : Int32} {v_pets : Int32} {v_last : Int32} {v_seed : Int32} {v_weight : Int32} {v_fright : Int32} {v_age : Int32} {v_asked : Nat → Int32} {v_homes : Nat → Option Nat} {v_marks : Nat → Int32} {v_had : Nat → Int32} {v_allergic : Nat → Int32} {v_deaths : Nat → Int32} {u_many : Int32} {u_pets : Int32} {u_last : Int32} {u_seed : Int32} {u_weight : Int32} {u_fright : Int32} {u_age : Int32} {u_asked : Nat → Int32} {u_homes : Nat → Option Nat} {u_marks : Nat → Int32} {u_had : Nat → Int32} {u_allergic : Nat → Int32} {u_deaths : Nat → Int32} : mergeAt (xW aT ad v_latestFault v_died v_leastWeight v_noticedBy v_noticed v_orderDied v_orderLeast v_imaged v_shelves v_refusals v_ran v_bodies v_tweight v_tfright v_tage v_tasked v_told v_bestRow v_weight_a1 v_fright_a1 v_age_a1 v_asked_a1 v_weight_a2 v_fright_a2 v_age_a2 v_asked_a2 v_weight_a3 v_fright_a3 v_age_a3 v_asked_a3 v_weight_a4 v_fright_a4 v_age_a4 v_asked_a4 v_many v_pets v_last v_seed v_weight v_fright v_age v_asked v_homes v_marks v_had v_allergic v_deaths) [18, 19, 20, 21, 22, 23, 24, 25] (rW aT (fun i => ad (18 + i)) u_many u_pets u_last u_seed u_weight u_fright u_age u_asked u_homes u_marks u_had u_allergic u_deaths) = (xW aT ad v_latestFault v_died v_leastWeight v_noticedBy v_noticed v_orderDied v_orderLeast v_imaged v_shelves v_refusals v_ran v_bodies v_tweight v_tfright v_tage v_tasked v_told v_bestRow v_weight_a1 v_fright_a1 v_age_a1 v_asked_a1 v_weight_a2 v_fright_a2 v_age_a2 v_asked_a2 v_weight_a3 v_fright_a3 v_age_a3 v_asked_a3 v_weight_a4 v_fright_a4 v_age_a4 v_asked_a4 u_many u_pets u_last u_seed u_weight u_fright u_age u_asked u_homes u_marks u_had u_allergic u_deaths) := rfl
theorem sub_xW_rW_18 {aT : Nat → ClassId} {ad : Nat → Nat} {v_latestFault : Int32} {v_died : Int32} {v_leastWeight : Int32} {v_noticedBy : Int32} {v_noticed : Int32} {v_orderDied : Int32} {v_orderLeast : Int32} {v_imaged : Option Nat} {v_shelves : Nat → Option Nat} {v_refusals : Nat → Int32} {v_ran : Int32} {v_bodies : Nat → Int32} {v_tweight : Int32} {v_tfright : Int32} {v_tage : Int32} {v_tasked : Nat → Int32} {v_told : Nat → Int32} {v_bestRow : Nat → Int32} {v_weight_a1 : Int32} {v_fright_a1 : Int32} {v_age_a1 : Int32} {v_asked_a1 : Nat → Int32} {v_weight_a2 : Int32} {v_fright_a2 : Int32} {v_age_a2 : Int32} {v_asked_a2 : Nat → Int32} {v_weight_a3 : Int32} {v_fright_a3 : Int32} {v_age_a3 : Int32} {v_asked_a3 : Nat → Int32} {v_weight_a4 : Int32} {v_fright_a4 : Int32} {v_age_a4 : Int32} {v_asked_a4 : Nat → Int32} {v_many : Int32} {v_pets : Int32} {v_last : Int32} {v_seed : Int32} {v_weight : Int32} {v_fright : Int32} {v_age : Int32} {v_asked : Nat → Int32} {v_homes : Nat → Option Nat} {v_marks : Nat → Int32} {v_had : Nat → Int32} {v_allergic : Nat → Int32} {v_deaths : Nat → Int32} : ([18, 19, 20, 21, 22, 23, 24, 25] : List Nat).filterMap (fun i => (xW aT ad v_latestFault v_died v_leastWeight v_noticedBy v_noticed v_orderDied v_orderLeast v_imaged v_shelves v_refusals v_ran v_bodies v_tweight v_tfright v_tage v_tasked v_told v_bestRow v_weight_a1 v_fright_a1 v_age_a1 v_asked_a1 v_weight_a2 v_fright_a2 v_age_a2 v_asked_a2 v_weight_a3 v_fright_a3 v_age_a3 v_asked_a3 v_weight_a4 v_fright_a4 v_age_a4 v_asked_a4 v_many v_pets v_last v_seed v_weight v_fright v_age v_asked v_homes v_marks v_had v_allergic v_deaths)[i]?) = (rW aT (fun i => ad (18 + i)) v_many v_pets v_last v_seed v_weight v_fright v_age v_asked v_homes v_marks v_had v_allergic v_deaths) := rfl
theorem mg_xW_pW_5 {aT : Nat → ClassId} {ad : Nat → Nat} {v_latestFault : Int32} {v_died : Int32} {v_leastWeight : Int32} {v_noticedBy : Int32} {v_noticed : Int32} {v_orderDied : Int32} {v_orderLeast : Int32} {v_imaged : Option Nat} {v_shelves : Nat → Option Nat} {v_refusals : Nat → Int32} {v_ran : Int32} {v_bodies : Nat → Int32} {v_tweight : Int32} {v_tfright : Int32} {v_tage : Int32} {v_tasked : Nat → Int32} {v_told : Nat → Int32} {v_bestRow : Nat → Int32} {v_weight_a1 : Int32} {v_fright_a1 : Int32} {v_age_a1 : Int32} {v_asked_a1 : Nat → Int32} {v_weight_a2 : Int32} {v_fright_a2 : Int32} {v_age_a2 : Int32} {v_asked_a2 : Nat → Int32} {v_weight_a3 : Int32} {v_fright_a3 : Int32} {v_age_a3 : Int32} {v_asked_a3 : Nat → Int32} {v_weight_a4 : Int32} {v_fright_a4 : Int32} {v_age_a4 : Int32} {v_asked_a4 : Nat → Int32} {v_many : Int32} {v_pets : Int32} {v_last : Int32} {v_seed : Int32} {v_weight : Int32} {v_fright : Int32} {v_age : Int32} {v_asked : Nat → Int32} {v_homes : Nat → Option Nat} {v_marks : Nat → Int32} {v_had : Nat → Int32} {v_allergic : Nat → Int32} {v_deaths : Nat → Int32} {u_weight : Int32} {u_fright : Int32} {u_age : Int32} {u_asked : Nat → Int32} : mergeAt (xW aT ad v_latestFault v_died v_leastWeight v_noticedBy v_noticed v_orderDied v_orderLeast v_imaged v_shelves v_refusals v_ran v_bodies v_tweight v_tfright v_tage v_tasked v_told v_bestRow v_weight_a1 v_fright_a1 v_age_a1 v_asked_a1 v_weight_a2 v_fright_a2 v_age_a2 v_asked_a2 v_weight_a3 v_fright_a3 v_age_a3 v_asked_a3 v_weight_a4 v_fright_a4 v_age_a4 v_asked_a4 v_many v_pets v_last v_seed v_weight v_fright v_age v_asked v_homes v_marks v_had v_allergic v_deaths) [5, 6] (pW aT (fun i => ad (5 + i)) u_weight u_fright u_age u_asked) = (xW aT ad v_latestFault v_died v_leastWeight v_noticedBy v_noticed v_orderDied v_orderLeast v_imaged v_shelves v_refusals v_ran v_bodies u_weight u_fright u_age u_asked v_told v_bestRow v_weight_a1 v_fright_a1 v_age_a1 v_asked_a1 v_weight_a2 v_fright_a2 v_age_a2 v_asked_a2 v_weight_a3 v_fright_a3 v_age_a3 v_asked_a3 v_weight_a4 v_fright_a4 v_age_a4 v_asked_a4 v_many v_pets v_last v_seed v_weight v_fright v_age v_asked v_homes v_marks v_had v_allergic v_deaths) := rfl
theorem sub_xW_pW_5 {aT : Nat → ClassId} {ad : Nat → Nat} {v_latestFault : Int32} {v_died : Int32} {v_leastWeight : Int32} {v_noticedBy : Int32} {v_noticed : Int32} {v_orderDied : Int32} {v_orderLeast : Int32} {v_imaged : Option Nat} {v_shelves : Nat → Option Nat} {v_refusals : Nat → Int32} {v_ran : Int32} {v_bodies : Nat → Int32} {v_tweight : Int32} {v_tfright : Int32} {v_tage : Int32} {v_tasked : Nat → Int32} {v_told : Nat → Int32} {v_bestRow : Nat → Int32} {v_weight_a1 : Int32} {v_fright_a1 : Int32} {v_age_a1 : Int32} {v_asked_a1 : Nat → Int32} {v_weight_a2 : Int32} {v_fright_a2 : Int32} {v_age_a2 : Int32} {v_asked_a2 : Nat → Int32} {v_weight_a3 : Int32} {v_fright_a3 : Int32} {v_age_a3 : Int32} {v_asked_a3 : Nat → Int32} {v_weight_a4 : Int32} {v_fright_a4 : Int32} {v_age_a4 : Int32} {v_asked_a4 : Nat → Int32} {v_many : Int32} {v_pets : Int32} {v_last : Int32} {v_seed : Int32} {v_weight : Int32} {v_fright : Int32} {v_age : Int32} {v_asked : Nat → Int32} {v_homes : Nat → Option Nat} {v_marks : Nat → Int32} {v_had : Nat → Int32} {v_allergic : Nat → Int32} {v_deaths : Nat → Int32} : ([5, 6] : List Nat).filterMap (fun i => (xW aT ad v_latestFault v_died v_leastWeight v_noticedBy v_noticed v_orderDied v_orderLeast v_imaged v_shelves v_refusals v_ran v_bodies v_tweight v_tfright v_tage v_tasked v_told v_bestRow v_weight_a1 v_fright_a1 v_age_a1 v_asked_a1 v_weight_a2 v_fright_a2 v_age_a2 v_asked_a2 v_weight_a3 v_fright_a3 v_age_a3 v_asked_a3 v_weight_a4 v_fright_a4 v_age_a4 v_asked_a4 v_many v_pets v_last v_seed v_weight v_fright v_age v_asked v_homes v_marks v_had v_allergic v_deaths)[i]?) = (pW aT (fun i => ad (5 + i)) v_tweight v_tfright v_tage v_tasked) := rfl
theorem mg_xW_ppW_5_19 {aT : Nat → ClassId} {ad : Nat → Nat} {v_latestFault : Int32} {v_died : Int32} {v_leastWeight : Int32} {v_noticedBy : Int32} {v_noticed : Int32} {v_orderDied : Int32} {v_orderLeast : Int32} {v_imaged : Option Nat} {v_shelves : Nat → Option Nat} {v_refusals : Nat → Int32} {v_ran : Int32} {v_bodies : Nat → Int32} {v_tweight : Int32} {v_tfright : Int32} {v_tage : Int32} {v_tasked : Nat → Int32} {v_told : Nat → Int32} {v_bestRow : Nat → Int32} {v_weight_a1 : Int32} {v_fright_a1 : Int32} {v_age_a1 : Int32} {v_asked_a1 : Nat → Int32} {v_weight_a2 : Int32} {v_fright_a2 : Int32} {v_age_a2 : Int32} {v_asked_a2 : Nat → Int32} {v_weight_a3 : Int32} {v_fright_a3 : Int32} {v_age_a3 : Int32} {v_asked_a3 : Nat → Int32} {v_weight_a4 : Int32} {v_fright_a4 : Int32} {v_age_a4 : Int32} {v_asked_a4 : Nat → Int32} {v_many : Int32} {v_pets : Int32} {v_last : Int32} {v_seed : Int32} {v_weight : Int32} {v_fright : Int32} {v_age : Int32} {v_asked : Nat → Int32} {v_homes : Nat → Option Nat} {v_marks : Nat → Int32} {v_had : Nat → Int32} {v_allergic : Nat → Int32} {v_deaths : Nat → Int32} {u_weight : Int32} {u_fright : Int32} {u_age : Int32} {u_asked : Nat → Int32} {u_weight2 : Int32} {u_fright2 : Int32} {u_age2 : Int32} {u_asked2 : Nat → Int32} : mergeAt (xW aT ad v_latestFault v_died v_leastWeight v_noticedBy v_noticed v_orderDied v_orderLeast v_imaged v_shelves v_refusals v_ran v_bodies v_tweight v_tfright v_tage v_tasked v_told v_bestRow v_weight_a1 v_fright_a1 v_age_a1 v_asked_a1 v_weight_a2 v_fright_a2 v_age_a2 v_asked_a2 v_weight_a3 v_fright_a3 v_age_a3 v_asked_a3 v_weight_a4 v_fright_a4 v_age_a4 v_asked_a4 v_many v_pets v_last v_seed v_weight v_fright v_age v_asked v_homes v_marks v_had v_allergic v_deaths) [5, 6, 19, 20] (ppW aT (fun i => ad (if i < 2 then 5 + i else 19 + (i - 2))) u_weight u_fright u_age u_asked u_weight2 u_fright2 u_age2 u_asked2) = (xW aT ad v_latestFault v_died v_leastWeight v_noticedBy v_noticed v_orderDied v_orderLeast v_imaged v_shelves v_refusals v_ran v_bodies u_weight u_fright u_age u_asked v_told v_bestRow v_weight_a1 v_fright_a1 v_age_a1 v_asked_a1 v_weight_a2 v_fright_a2 v_age_a2 v_asked_a2 v_weight_a3 v_fright_a3 v_age_a3 v_asked_a3 v_weight_a4 v_fright_a4 v_age_a4 v_asked_a4 v_many v_pets v_last v_seed u_weight2 u_fright2 u_age2 u_asked2 v_homes v_marks v_had v_allergic v_deaths) := rfl
theorem sub_xW_ppW_5_19 {aT : Nat → ClassId} {ad : Nat → Nat} {v_latestFault : Int32} {v_died : Int32} {v_leastWeight : Int32} {v_noticedBy : Int32} {v_noticed : Int32} {v_orderDied : Int32} {v_orderLeast : Int32} {v_imaged : Option Nat} {v_shelves : Nat → Option Nat} {v_refusals : Nat → Int32} {v_ran : Int32} {v_bodies : Nat → Int32} {v_tweight : Int32} {v_tfright : Int32} {v_tage : Int32} {v_tasked : Nat → Int32} {v_told : Nat → Int32} {v_bestRow : Nat → Int32} {v_weight_a1 : Int32} {v_fright_a1 : Int32} {v_age_a1 : Int32} {v_asked_a1 : Nat → Int32} {v_weight_a2 : Int32} {v_fright_a2 : Int32} {v_age_a2 : Int32} {v_asked_a2 : Nat → Int32} {v_weight_a3 : Int32} {v_fright_a3 : Int32} {v_age_a3 : Int32} {v_asked_a3 : Nat → Int32} {v_weight_a4 : Int32} {v_fright_a4 : Int32} {v_age_a4 : Int32} {v_asked_a4 : Nat → Int32} {v_many : Int32} {v_pets : Int32} {v_last : Int32} {v_seed : Int32} {v_weight : Int32} {v_fright : Int32} {v_age : Int32} {v_asked : Nat → Int32} {v_homes : Nat → Option Nat} {v_marks : Nat → Int32} {v_had : Nat → Int32} {v_allergic : Nat → Int32} {v_deaths : Nat → Int32} : ([5, 6, 19, 20] : List Nat).filterMap (fun i => (xW aT ad v_latestFault v_died v_leastWeight v_noticedBy v_noticed v_orderDied v_orderLeast v_imaged v_shelves v_refusals v_ran v_bodies v_tweight v_tfright v_tage v_tasked v_told v_bestRow v_weight_a1 v_fright_a1 v_age_a1 v_asked_a1 v_weight_a2 v_fright_a2 v_age_a2 v_asked_a2 v_weight_a3 v_fright_a3 v_age_a3 v_asked_a3 v_weight_a4 v_fright_a4 v_age_a4 v_asked_a4 v_many v_pets v_last v_seed v_weight v_fright v_age v_asked v_homes v_marks v_had v_allergic v_deaths)[i]?) = (ppW aT (fun i => ad (if i < 2 then 5 + i else 19 + (i - 2))) v_tweight v_tfright v_tage v_tasked v_weight v_fright v_age v_asked) := rfl
theorem mg_xW_aW_23 {aT : Nat → ClassId} {ad : Nat → Nat} {v_latestFault : Int32} {v_died : Int32} {v_leastWeight : Int32} {v_noticedBy : Int32} {v_noticed : Int32} {v_orderDied : Int32} {v_orderLeast : Int32} {v_imaged : Option Nat} {v_shelves : Nat → Option Nat} {v_refusals : Nat → Int32} {v_ran : Int32} {v_bodies : Nat → Int32} {v_tweight : Int32} {v_tfright : Int32} {v_tage : Int32} {v_tasked : Nat → Int32} {v_told : Nat → Int32} {v_bestRow : Nat → Int32} {v_weight_a1 : Int32} {v_fright_a1 : Int32} {v_age_a1 : Int32} {v_asked_a1 : Nat → Int32} {v_weight_a2 : Int32} {v_fright_a2 : Int32} {v_age_a2 : Int32} {v_asked_a2 : Nat → Int32} {v_weight_a3 : Int32} {v_fright_a3 : Int32} {v_age_a3 : Int32} {v_asked_a3 : Nat → Int32} {v_weight_a4 : Int32} {v_fright_a4 : Int32} {v_age_a4 : Int32} {v_asked_a4 : Nat → Int32} {v_many : Int32} {v_pets : Int32} {v_last : Int32} {v_seed : Int32} {v_weight : Int32} {v_fright : Int32} {v_age : Int32} {v_asked : Nat → Int32} {v_homes : Nat → Option Nat} {v_marks : Nat → Int32} {v_had : Nat → Int32} {v_allergic : Nat → Int32} {v_deaths : Nat → Int32} {u_arr : Nat → Int32} : mergeAt (xW aT ad v_latestFault v_died v_leastWeight v_noticedBy v_noticed v_orderDied v_orderLeast v_imaged v_shelves v_refusals v_ran v_bodies v_tweight v_tfright v_tage v_tasked v_told v_bestRow v_weight_a1 v_fright_a1 v_age_a1 v_asked_a1 v_weight_a2 v_fright_a2 v_age_a2 v_asked_a2 v_weight_a3 v_fright_a3 v_age_a3 v_asked_a3 v_weight_a4 v_fright_a4 v_age_a4 v_asked_a4 v_many v_pets v_last v_seed v_weight v_fright v_age v_asked v_homes v_marks v_had v_allergic v_deaths) [23] (aW aT (fun i => ad (23 + i)) u_arr) = (xW aT ad v_latestFault v_died v_leastWeight v_noticedBy v_noticed v_orderDied v_orderLeast v_imaged v_shelves v_refusals v_ran v_bodies v_tweight v_tfright v_tage v_tasked v_told v_bestRow v_weight_a1 v_fright_a1 v_age_a1 v_asked_a1 v_weight_a2 v_fright_a2 v_age_a2 v_asked_a2 v_weight_a3 v_fright_a3 v_age_a3 v_asked_a3 v_weight_a4 v_fright_a4 v_age_a4 v_asked_a4 v_many v_pets v_last v_seed v_weight v_fright v_age v_asked v_homes v_marks u_arr v_allergic v_deaths) := rfl
theorem sub_xW_aW_23 {aT : Nat → ClassId} {ad : Nat → Nat} {v_latestFault : Int32} {v_died : Int32} {v_leastWeight : Int32} {v_noticedBy : Int32} {v_noticed : Int32} {v_orderDied : Int32} {v_orderLeast : Int32} {v_imaged : Option Nat} {v_shelves : Nat → Option Nat} {v_refusals : Nat → Int32} {v_ran : Int32} {v_bodies : Nat → Int32} {v_tweight : Int32} {v_tfright : Int32} {v_tage : Int32} {v_tasked : Nat → Int32} {v_told : Nat → Int32} {v_bestRow : Nat → Int32} {v_weight_a1 : Int32} {v_fright_a1 : Int32} {v_age_a1 : Int32} {v_asked_a1 : Nat → Int32} {v_weight_a2 : Int32} {v_fright_a2 : Int32} {v_age_a2 : Int32} {v_asked_a2 : Nat → Int32} {v_weight_a3 : Int32} {v_fright_a3 : Int32} {v_age_a3 : Int32} {v_asked_a3 : Nat → Int32} {v_weight_a4 : Int32} {v_fright_a4 : Int32} {v_age_a4 : Int32} {v_asked_a4 : Nat → Int32} {v_many : Int32} {v_pets : Int32} {v_last : Int32} {v_seed : Int32} {v_weight : Int32} {v_fright : Int32} {v_age : Int32} {v_asked : Nat → Int32} {v_homes : Nat → Option Nat} {v_marks : Nat → Int32} {v_had : Nat → Int32} {v_allergic : Nat → Int32} {v_deaths : Nat → Int32} : ([23] : List Nat).filterMap (fun i => (xW aT ad v_latestFault v_died v_leastWeight v_noticedBy v_noticed v_orderDied v_orderLeast v_imaged v_shelves v_refusals v_ran v_bodies v_tweight v_tfright v_tage v_tasked v_told v_bestRow v_weight_a1 v_fright_a1 v_age_a1 v_asked_a1 v_weight_a2 v_fright_a2 v_age_a2 v_asked_a2 v_weight_a3 v_fright_a3 v_age_a3 v_asked_a3 v_weight_a4 v_fright_a4 v_age_a4 v_asked_a4 v_many v_pets v_last v_seed v_weight v_fright v_age v_asked v_homes v_marks v_had v_allergic v_deaths)[i]?) = (aW aT (fun i => ad (23 + i)) v_had) := rfl
theorem mg_xW_tW_3 {aT : Nat → ClassId} {ad : Nat → Nat} {v_latestFault : Int32} {v_died : Int32} {v_leastWeight : Int32} {v_noticedBy : Int32} {v_noticed : Int32} {v_orderDied : Int32} {v_orderLeast : Int32} {v_imaged : Option Nat} {v_shelves : Nat → Option Nat} {v_refusals : Nat → Int32} {v_ran : Int32} {v_bodies : Nat → Int32} {v_tweight : Int32} {v_tfright : Int32} {v_tage : Int32} {v_tasked : Nat → Int32} {v_told : Nat → Int32} {v_bestRow : Nat → Int32} {v_weight_a1 : Int32} {v_fright_a1 : Int32} {v_age_a1 : Int32} {v_asked_a1 : Nat → Int32} {v_weight_a2 : Int32} {v_fright_a2 : Int32} {v_age_a2 : Int32} {v_asked_a2 : Nat → Int32} {v_weight_a3 : Int32} {v_fright_a3 : Int32} {v_age_a3 : Int32} {v_asked_a3 : Nat → Int32} {v_weight_a4 : Int32} {v_fright_a4 : Int32} {v_age_a4 : Int32} {v_asked_a4 : Nat → Int32} {v_many : Int32} {v_pets : Int32} {v_last : Int32} {v_seed : Int32} {v_weight : Int32} {v_fright : Int32} {v_age : Int32} {v_asked : Nat → Int32} {v_homes : Nat → Option Nat} {v_marks : Nat → Int32} {v_had : Nat → Int32} {v_allergic : Nat → Int32} {v_deaths : Nat → Int32} {u_ran : Int32} {u_bodies : Nat → Int32} : mergeAt (xW aT ad v_latestFault v_died v_leastWeight v_noticedBy v_noticed v_orderDied v_orderLeast v_imaged v_shelves v_refusals v_ran v_bodies v_tweight v_tfright v_tage v_tasked v_told v_bestRow v_weight_a1 v_fright_a1 v_age_a1 v_asked_a1 v_weight_a2 v_fright_a2 v_age_a2 v_asked_a2 v_weight_a3 v_fright_a3 v_age_a3 v_asked_a3 v_weight_a4 v_fright_a4 v_age_a4 v_asked_a4 v_many v_pets v_last v_seed v_weight v_fright v_age v_asked v_homes v_marks v_had v_allergic v_deaths) [3, 4] (tW aT (fun i => ad (3 + i)) u_ran u_bodies) = (xW aT ad v_latestFault v_died v_leastWeight v_noticedBy v_noticed v_orderDied v_orderLeast v_imaged v_shelves v_refusals u_ran u_bodies v_tweight v_tfright v_tage v_tasked v_told v_bestRow v_weight_a1 v_fright_a1 v_age_a1 v_asked_a1 v_weight_a2 v_fright_a2 v_age_a2 v_asked_a2 v_weight_a3 v_fright_a3 v_age_a3 v_asked_a3 v_weight_a4 v_fright_a4 v_age_a4 v_asked_a4 v_many v_pets v_last v_seed v_weight v_fright v_age v_asked v_homes v_marks v_had v_allergic v_deaths) := rfl
theorem sub_xW_tW_3 {aT : Nat → ClassId} {ad : Nat → Nat} {v_latestFault : Int32} {v_died : Int32} {v_leastWeight : Int32} {v_noticedBy : Int32} {v_noticed : Int32} {v_orderDied : Int32} {v_orderLeast : Int32} {v_imaged : Option Nat} {v_shelves : Nat → Option Nat} {v_refusals : Nat → Int32} {v_ran : Int32} {v_bodies : Nat → Int32} {v_tweight : Int32} {v_tfright : Int32} {v_tage : Int32} {v_tasked : Nat → Int32} {v_told : Nat → Int32} {v_bestRow : Nat → Int32} {v_weight_a1 : Int32} {v_fright_a1 : Int32} {v_age_a1 : Int32} {v_asked_a1 : Nat → Int32} {v_weight_a2 : Int32} {v_fright_a2 : Int32} {v_age_a2 : Int32} {v_asked_a2 : Nat → Int32} {v_weight_a3 : Int32} {v_fright_a3 : Int32} {v_age_a3 : Int32} {v_asked_a3 : Nat → Int32} {v_weight_a4 : Int32} {v_fright_a4 : Int32} {v_age_a4 : Int32} {v_asked_a4 : Nat → Int32} {v_many : Int32} {v_pets : Int32} {v_last : Int32} {v_seed : Int32} {v_weight : Int32} {v_fright : Int32} {v_age : Int32} {v_asked : Nat → Int32} {v_homes : Nat → Option Nat} {v_marks : Nat → Int32} {v_had : Nat → Int32} {v_allergic : Nat → Int32} {v_deaths : Nat → Int32} : ([3, 4] : List Nat).filterMap (fun i => (xW aT ad v_latestFault v_died v_leastWeight v_noticedBy v_noticed v_orderDied v_orderLeast v_imaged v_shelves v_refusals v_ran v_bodies v_tweight v_tfright v_tage v_tasked v_told v_bestRow v_weight_a1 v_fright_a1 v_age_a1 v_asked_a1 v_weight_a2 v_fright_a2 v_age_a2 v_asked_a2 v_weight_a3 v_fright_a3 v_age_a3 v_asked_a3 v_weight_a4 v_fright_a4 v_age_a4 v_asked_a4 v_many v_pets v_last v_seed v_weight v_fright v_age v_asked v_homes v_marks v_had v_allergic v_deaths)[i]?) = (tW aT (fun i => ad (3 + i)) v_ran v_bodies) := rfl
def sC_Room_week (v_many : Int32) (v_pets : Int32) (v_last : Int32) (v_weight : Int32) (v_fright : Int32) (v_age : Int32) (v_asked : Nat → Int32) (v_homes : Nat → Option Nat) (v_had : Nat → Int32) (v_deaths : Nat → Int32) (hk : Nat → Nat) (hb : Nat → Int32) (p1 : Int32) : Option (Int32 × Int32 × Int32 × Int32 × Int32 × Int32 × (Nat → Int32) × (Nat → Int32)) :=
  (sC_Room_of v_homes p1).bind fun r1 =>
  if p1 = (-1) then
    (sC_Pet_week_N v_weight v_fright v_age v_asked).bind fun r5 =>
    @Option.bind (Int32 × (Nat → Int32)) _ (
      if p1 = (-1) then
        some (v_last, v_had)
      else
        if gi p1 8 then
        if gi p1 8 then
        some (p1, (upd v_had (p1).toNatClampNeg ((v_had (p1).toNatClampNeg) + 1)))
        else none
        else none) fun u7 =>
    (sC_Pet_dies r5.1 r5.2.1 r5.2.2 v_asked).bind fun r10 =>
    @Option.bind (Int32 × Int32 × Int32 × Int32 × (Nat → Int32)) _ (
      if r10 = (-1) then
        some (v_pets, r5.1, r5.2.1, r5.2.2, v_deaths)
      else
        if gi r10 3 then
        if gi r10 3 then
        (sC_Pet_replaced r5.1 r5.2.1 r5.2.2).bind fun r15 =>
        some ((v_pets + 1), r15.1, r15.2.1, r15.2.2, (upd v_deaths (r10).toNatClampNeg ((v_deaths (r10).toNatClampNeg) + 1)))
        else none
        else none) fun u12 =>
    some (r10, u12.1, u7.1, u12.2.1, u12.2.2.1, u12.2.2.2.1, u7.2, u12.2.2.2.2)
  else
  if gm p1 v_many then
  (sC_Pet_week_H v_weight v_fright v_age v_asked (hk (p1).toNatClampNeg) p1 (hb (p1).toNatClampNeg)).bind fun r16 =>
  @Option.bind (Int32 × (Nat → Int32)) _ (
    if p1 = (-1) then
      some (v_last, v_had)
    else
      if gi p1 8 then
      if gi p1 8 then
      some (p1, (upd v_had (p1).toNatClampNeg ((v_had (p1).toNatClampNeg) + 1)))
      else none
      else none) fun u18 =>
  (sC_Pet_dies r16.1 r16.2.1 r16.2.2 v_asked).bind fun r21 =>
  @Option.bind (Int32 × Int32 × Int32 × Int32 × (Nat → Int32)) _ (
    if r21 = (-1) then
      some (v_pets, r16.1, r16.2.1, r16.2.2, v_deaths)
    else
      if gi r21 3 then
      if gi r21 3 then
      (sC_Pet_replaced r16.1 r16.2.1 r16.2.2).bind fun r26 =>
      some ((v_pets + 1), r26.1, r26.2.1, r26.2.2, (upd v_deaths (r21).toNatClampNeg ((v_deaths (r21).toNatClampNeg) + 1)))
      else none
      else none) fun u23 =>
  some (r21, u23.1, u18.1, u23.2.1, u23.2.2.1, u23.2.2.2.1, u18.2, u23.2.2.2.2)
  else none
set_option maxHeartbeats 4000000 in
theorem metC_Room_week (l : Launch) (G : kG) (ad : Nat → Nat) (pl : va_W) (hk : Nat → Nat) (hb : Nat → Int32) (v_many : Int32) (v_pets : Int32) (v_last : Int32) (v_seed : Int32) (v_weight : Int32) (v_fright : Int32) (v_age : Int32) (v_asked : Nat → Int32) (v_homes : Nat → Option Nat) (v_marks : Nat → Int32) (v_had : Nat → Int32) (v_allergic : Nat → Int32) (v_deaths : Nat → Int32) (hom : homOK v_homes v_many hk hb pl) (p1 : Int32) (res : Int32 × Int32 × Int32 × Int32 × Int32 × Int32 × (Nat → Int32) × (Nat → Int32)) (hE : sC_Room_week v_many v_pets v_last v_weight v_fright v_age v_asked v_homes v_had v_deaths hk hb p1 = some res) : Met l yX3_week (ws_ yX3_week cX3_week 3 (some .int)) ({ frames := 5, cells := 0, slots := 0, locals := 106 } : Room) (nPc G (rW G.2 ad v_many v_pets v_last v_seed v_weight v_fright v_age v_asked v_homes v_marks v_had v_allergic v_deaths) pl (rWV ad) [.ref (ad 0), .int p1]) (nQc G (rW G.2 ad v_many res.2.1 res.2.2.1 v_seed res.2.2.2.1 res.2.2.2.2.1 res.2.2.2.2.2.1 v_asked v_homes v_marks res.2.2.2.2.2.2.1 v_allergic res.2.2.2.2.2.2.2) (rWV ad) (some (.int res.1))) 0 0 (nA (rWV ad)) := by
  refine n_ofW (own := RX3) (by decide) rfl (Nat.le_of_ble_eq_true rfl) ?_
  intro p e s m args below meth c ls C hml hP hS hl hr hlocks
  have hl : lv_has ls 3 [(0, .ref (ad 0)), (1, .int p1)] := hl
  obtain ⟨Q, hQ⟩ : ∃ Q, Q = MQ below (nQc G (rW G.2 ad v_many res.2.1 res.2.2.1 v_seed res.2.2.2.1 res.2.2.2.2.1 res.2.2.2.2.2.1 v_asked v_homes v_marks res.2.2.2.2.2.2.1 v_allergic res.2.2.2.2.2.2.2) (rWV ad) (some (.int res.1))) args s 0 0 (nA (rWV ad)) := ⟨_, rfl⟩
  rw [← hQ]
  have hret : ∀ (pc : Nat) (ls : Array Slot) (H : Heap) (locs : List Loc), decode cX3_week pc = .ok (.ireturn, 1) → va_P G.1 vwCl (rW G.2 ad v_many res.2.1 res.2.2.1 v_seed res.2.2.2.1 res.2.2.2.2.1 res.2.2.2.2.2.1 v_asked v_homes v_marks res.2.2.2.2.2.2.1 v_allergic res.2.2.2.2.2.2.2) H → va_S (nA (rWV ad)) s.heap H locs → W p l e ({ frames := 5, cells := 0, slots := 0, locals := 106 } : Room) s m args below meth c H locs 0 0 Q (F0 m pc ls [(.int res.1)]) := by
    intro pc ls H locs hd hP hS
    rw [hQ]
    exact n_iret C hr hlocks hd hP hS
  clear hQ
  obtain ⟨H, hH⟩ : ∃ H, H = s.heap := ⟨_, rfl⟩
  obtain ⟨locs, hlo⟩ : ∃ locs : List Loc, locs = [] := ⟨_, rfl⟩
  have hP : va_P G.1 vwCl (rW G.2 ad v_many v_pets v_last v_seed v_weight v_fright v_age v_asked v_homes v_marks v_had v_allergic v_deaths) H := by rw [hH]; exact hP
  have hS : va_S (nA (rWV ad)) s.heap H locs := by rw [hH, hlo]; exact hS
  suffices hZ : W p l e ({ frames := 5, cells := 0, slots := 0, locals := 106 } : Room) s m args below meth c H locs 0 0 Q (F0 m 0 ls []) by rw [hH, hlo] at hZ; exact hZ
  clear hH hlo
  unfold sC_Room_week at hE
  refine lv_aload_n C.1 C.2.1 dX3_week_0 rfl (lv_at hl 0 rfl) ?_
  refine rWg_0_4 q189 C hP dX3_week_1 ?_
  refine lv_aload_n C.1 C.2.1 dX3_week_4 rfl (lv_at hl 0 rfl) ?_
  refine lv_iload_n C.1 C.2.1 dX3_week_5 rfl (lv_at hl 1 rfl) ?_
  obtain ⟨r1, hr1, hE⟩ := it_b hE
  refine n_afterS C.2.2.2.2.2.2.2.1 hS (va_runV (As := [.int p1]) (rest := [.ref (ad 1)]) ⟨C.1, C.2.1, hml, C.2.2.1, C.2.2.2.1⟩ (metC_Room_of l G ad pl _ _ _ _ _ _ _ _ _ _ _ _ _ p1  r1 hr1) (cwV (C := RX3) 1 C.2.2.2.1 (lw_V q980 q981 q982 q83 q983) rfl rfl rfl (by decide +kernel) ⟨Nat.le_of_ble_eq_true rfl, Nat.le_of_ble_eq_true rfl⟩) (n_preV0 C hP hS (va_recv C.2.2.2.2.1 hP (ci := 12) (q0 := 0) rfl rfl)) rfl rfl hl.1 rfl (lv_room (Nat.le_of_ble_eq_true rfl)) dX3_week_6 ⟨Nat.le_refl _, Nat.le_refl _⟩) (fun H locs hP hS => ?_)
  by_cases c2 : p1 = (-1)
  · have hE := it_t c2 hE
    obtain rfl := of_none hr1 c2
    obtain ⟨r5, hr5, hE⟩ := it_b hE
    refine n_after [1, 2] C.2.2.2.2.2.1 C.2.2.2.2.2.2.2.1 hP hS (va_runV (As := [.null]) (rest := []) ⟨C.1, C.2.1, hml, C.2.2.1, C.2.2.2.1⟩ (metC_Pet_week_N l G (fun i => ad (1 + i)) pl _ _ _ _   r5 hr5) (cwV (C := RX2) 1 C.2.2.2.1 (lw_V q984 q985 q986 q82 q987) rfl rfl rfl (by decide +kernel) ⟨Nat.le_of_ble_eq_true rfl, Nat.le_of_ble_eq_true rfl⟩) (n_preV C hP hS [1, 2] sub_rW_pW_1 (by decide) rfl (va_recv C.2.2.2.2.1 hP (ci := 11) (q0 := 1) rfl rfl)) rfl rfl hl.1 rfl (lv_room (Nat.le_of_ble_eq_true rfl)) dX3_week_9 ⟨Nat.le_refl _, Nat.le_refl _⟩) rW_av rfl rfl mg_rW_pW_1 (fun H locs hP hS => ?_)
    refine lv_iload_n C.1 C.2.1 dX3_week_12 rfl (lv_at hl 1 rfl) ?_
    refine lv_iconst (v := (-1)) C.1 C.2.1 dX3_week_13 (by decide) ?_
    obtain ⟨u7, hR, hE⟩ := it_b hE
    have hJ32u7 : ∀ (H : Heap) (locs : List Loc) (ls : Array Slot), va_P G.1 vwCl (rW G.2 ad v_many v_pets u7.1 v_seed r5.1 r5.2.1 r5.2.2 v_asked v_homes v_marks u7.2 v_allergic v_deaths) H → va_S (nA (rWV ad)) s.heap H locs → lv_has ls 3 [(0, .ref (ad 0))] → W p l e ({ frames := 5, cells := 0, slots := 0, locals := 106 } : Room) s m args below meth c H locs 0 0 Q (F0 m 32 ls []) := by
      intro H locs ls hP hS hl
      refine lv_aload_n C.1 C.2.1 dX3_week_32 rfl (lv_at hl 0 rfl) ?_
      refine rWg_0_4 q189 C hP dX3_week_33 ?_
      obtain ⟨r10, hr10, hE⟩ := it_b hE
      refine n_after [1, 2] C.2.2.2.2.2.1 C.2.2.2.2.2.2.2.1 hP hS (va_runV (As := []) (rest := []) ⟨C.1, C.2.1, hml, C.2.2.1, C.2.2.2.1⟩ (metC_Pet_dies l G (fun i => ad (1 + i)) pl _ _ _ _   r10 hr10) (cwV (C := RX2) 0 C.2.2.2.1 (lw_V q1023 q1024 q1025 q82 q1026) rfl rfl rfl (by decide +kernel) ⟨Nat.le_of_ble_eq_true rfl, Nat.le_of_ble_eq_true rfl⟩) (n_preV C hP hS [1, 2] sub_rW_pW_1 (by decide) rfl (va_recv C.2.2.2.2.1 hP (ci := 11) (q0 := 1) rfl rfl)) rfl rfl hl.1 rfl (lv_room (Nat.le_of_ble_eq_true rfl)) dX3_week_36 ⟨Nat.le_refl _, Nat.le_refl _⟩) rW_av rfl rfl mg_rW_pW_1 (fun H locs hP hS => ?_)
      refine lv_istore_n (lv' := [(2, .int r10), (0, .ref (ad 0))]) C.1 C.2.1 dX3_week_39 rfl hl (by decide) rfl (fun ls hl => ?_)
      refine lv_iload_n C.1 C.2.1 dX3_week_40 rfl (lv_at hl 0 rfl) ?_
      refine lv_iconst (v := (-1)) C.1 C.2.1 dX3_week_41 (by decide) ?_
      obtain ⟨u12, hR, hE⟩ := it_b hE
      have hJ72u12 : ∀ (H : Heap) (locs : List Loc) (ls : Array Slot), va_P G.1 vwCl (rW G.2 ad v_many u12.1 u7.1 v_seed u12.2.1 u12.2.2.1 u12.2.2.2.1 v_asked v_homes v_marks u7.2 v_allergic u12.2.2.2.2) H → va_S (nA (rWV ad)) s.heap H locs → lv_has ls 3 [(2, .int r10)] → W p l e ({ frames := 5, cells := 0, slots := 0, locals := 106 } : Room) s m args below meth c H locs 0 0 Q (F0 m 72 ls []) := by
        intro H locs ls hP hS hl
        refine lv_iload_n C.1 C.2.1 dX3_week_72 rfl (lv_at hl 0 rfl) ?_
        obtain rfl := Option.some.inj hE
        exact hret _ _ _ _ dX3_week_73 hP hS
      have hE := hR
      refine lv_icmp_eq (tgt := 72) C.1 C.2.1 dX3_week_42 (by decide) (fun c11 => ?_) (fun c11 => ?_)
      · have hE := it_t c11 hE
        obtain rfl := Option.some.inj hE
        exact hJ72u12 H locs ls hP hS (lv_sub hl [0] rfl)
      · have hE := it_f c11 hE
        refine lv_aload_n C.1 C.2.1 dX3_week_45 rfl (lv_at hl 1 rfl) ?_
        refine rWg_0_9 q203 C hP dX3_week_46 ?_
        refine lv_iload_n C.1 C.2.1 dX3_week_49 rfl (lv_at hl 0 rfl) ?_
        refine lv_dup2_11 C.1 C.2.1 dX3_week_50 rfl rfl ?_
        obtain ⟨g13, hE⟩ := it_g hE
        refine rWl_7 (v := (v_deaths (r10).toNatClampNeg)) C hP (gi_in g13) rfl dX3_week_51 ?_
        refine lv_iconst (v := 1) C.1 C.2.1 dX3_week_52 (by decide) ?_
        refine lv_iadd C.1 C.2.1 dX3_week_53 ?_
        obtain ⟨g14, hE⟩ := it_g hE
        refine rWs_7 C hP hS (gi_in g14) dX3_week_54 (fun H locs hP hS => ?_)
        refine lv_aload_n C.1 C.2.1 dX3_week_55 rfl (lv_at hl 1 rfl) ?_
        refine lv_dup C.1 C.2.1 dX3_week_56 rfl ?_
        refine rWg_0_1 q183 C hP dX3_week_57 ?_
        refine lv_iconst (v := 1) C.1 C.2.1 dX3_week_60 (by decide) ?_
        refine lv_iadd C.1 C.2.1 dX3_week_61 ?_
        refine rWp_0_1 q183 C hP hS dX3_week_62 (fun H locs hP hS => ?_)
        refine lv_aload_n C.1 C.2.1 dX3_week_65 rfl (lv_at hl 1 rfl) ?_
        refine rWg_0_4 q189 C hP dX3_week_66 ?_
        obtain ⟨r15, hr15, hE⟩ := it_b hE
        refine n_after [1, 2] C.2.2.2.2.2.1 C.2.2.2.2.2.2.2.1 hP hS (va_runV (As := []) (rest := []) ⟨C.1, C.2.1, hml, C.2.2.1, C.2.2.2.1⟩ (metC_Pet_replaced l G (fun i => ad (1 + i)) pl _ _ _ _   r15 hr15) (cwV (C := RX2) 0 C.2.2.2.1 (lw_V q1027 q1028 q1029 q82 q1030) rfl rfl rfl (by decide +kernel) ⟨Nat.le_of_ble_eq_true rfl, Nat.le_of_ble_eq_true rfl⟩) (n_preV C hP hS [1, 2] sub_rW_pW_1 (by decide) rfl (va_recv C.2.2.2.2.1 hP (ci := 11) (q0 := 1) rfl rfl)) rfl rfl hl.1 rfl (lv_room (Nat.le_of_ble_eq_true rfl)) dX3_week_69 ⟨Nat.le_refl _, Nat.le_refl _⟩) rW_av rfl rfl mg_rW_pW_1 (fun H locs hP hS => ?_)
        obtain rfl := Option.some.inj hE
        exact hJ72u12 H locs ls hP hS (lv_sub hl [0] rfl)
    have hE := hR
    refine lv_icmp_eq (tgt := 32) C.1 C.2.1 dX3_week_14 (by decide) (fun c6 => ?_) (fun c6 => ?_)
    · have hE := it_t c6 hE
      obtain rfl := Option.some.inj hE
      exact hJ32u7 H locs ls hP hS (lv_sub hl [0] rfl)
    · have hE := it_f c6 hE
      refine lv_aload_n C.1 C.2.1 dX3_week_17 rfl (lv_at hl 0 rfl) ?_
      refine rWg_0_7 q197 C hP dX3_week_18 ?_
      refine lv_iload_n C.1 C.2.1 dX3_week_21 rfl (lv_at hl 1 rfl) ?_
      refine lv_dup2_11 C.1 C.2.1 dX3_week_22 rfl rfl ?_
      obtain ⟨g8, hE⟩ := it_g hE
      refine rWl_5 (v := (v_had (p1).toNatClampNeg)) C hP (gi_in g8) rfl dX3_week_23 ?_
      refine lv_iconst (v := 1) C.1 C.2.1 dX3_week_24 (by decide) ?_
      refine lv_iadd C.1 C.2.1 dX3_week_25 ?_
      obtain ⟨g9, hE⟩ := it_g hE
      refine rWs_5 C hP hS (gi_in g9) dX3_week_26 (fun H locs hP hS => ?_)
      refine lv_aload_n C.1 C.2.1 dX3_week_27 rfl (lv_at hl 0 rfl) ?_
      refine lv_iload_n C.1 C.2.1 dX3_week_28 rfl (lv_at hl 1 rfl) ?_
      refine rWp_0_2 q185 C hP hS dX3_week_29 (fun H locs hP hS => ?_)
      obtain rfl := Option.some.inj hE
      exact hJ32u7 H locs ls hP hS (lv_sub hl [0] rfl)
  have hE := it_f c2 hE
  obtain ⟨g3, hE⟩ := it_g hE
  obtain ⟨q4, hq40, hq4, hq47⟩ := hom _ g3
  obtain rfl := of_some hr1 c2 hq40
  obtain ⟨r16, hr16, hE⟩ := it_b hE
  refine n_after [1, 2] C.2.2.2.2.2.1 C.2.2.2.2.2.2.2.1 hP hS (va_runV (As := [.ref q4]) (rest := []) ⟨C.1, C.2.1, hml, C.2.2.1, C.2.2.2.1⟩ (metC_Pet_week_H l G (fun i => ad (1 + i)) pl _ _ _ _ q4 (hk (p1).toNatClampNeg) p1 (hb (p1).toNatClampNeg) hq47 hq4 r16 hr16) (cwV (C := RX2) 1 C.2.2.2.1 (lw_V q984 q985 q986 q82 q987) rfl rfl rfl (by decide +kernel) ⟨Nat.le_of_ble_eq_true rfl, Nat.le_of_ble_eq_true rfl⟩) (n_preV C hP hS [1, 2] sub_rW_pW_1 (by decide) rfl (va_recv C.2.2.2.2.1 hP (ci := 11) (q0 := 1) rfl rfl)) rfl rfl hl.1 rfl (lv_room (Nat.le_of_ble_eq_true rfl)) dX3_week_9 ⟨Nat.le_refl _, Nat.le_refl _⟩) rW_av rfl rfl mg_rW_pW_1 (fun H locs hP hS => ?_)
  refine lv_iload_n C.1 C.2.1 dX3_week_12 rfl (lv_at hl 1 rfl) ?_
  refine lv_iconst (v := (-1)) C.1 C.2.1 dX3_week_13 (by decide) ?_
  obtain ⟨u18, hR, hE⟩ := it_b hE
  have hJ32u18 : ∀ (H : Heap) (locs : List Loc) (ls : Array Slot), va_P G.1 vwCl (rW G.2 ad v_many v_pets u18.1 v_seed r16.1 r16.2.1 r16.2.2 v_asked v_homes v_marks u18.2 v_allergic v_deaths) H → va_S (nA (rWV ad)) s.heap H locs → lv_has ls 3 [(0, .ref (ad 0))] → W p l e ({ frames := 5, cells := 0, slots := 0, locals := 106 } : Room) s m args below meth c H locs 0 0 Q (F0 m 32 ls []) := by
    intro H locs ls hP hS hl
    refine lv_aload_n C.1 C.2.1 dX3_week_32 rfl (lv_at hl 0 rfl) ?_
    refine rWg_0_4 q189 C hP dX3_week_33 ?_
    obtain ⟨r21, hr21, hE⟩ := it_b hE
    refine n_after [1, 2] C.2.2.2.2.2.1 C.2.2.2.2.2.2.2.1 hP hS (va_runV (As := []) (rest := []) ⟨C.1, C.2.1, hml, C.2.2.1, C.2.2.2.1⟩ (metC_Pet_dies l G (fun i => ad (1 + i)) pl _ _ _ _   r21 hr21) (cwV (C := RX2) 0 C.2.2.2.1 (lw_V q1023 q1024 q1025 q82 q1026) rfl rfl rfl (by decide +kernel) ⟨Nat.le_of_ble_eq_true rfl, Nat.le_of_ble_eq_true rfl⟩) (n_preV C hP hS [1, 2] sub_rW_pW_1 (by decide) rfl (va_recv C.2.2.2.2.1 hP (ci := 11) (q0 := 1) rfl rfl)) rfl rfl hl.1 rfl (lv_room (Nat.le_of_ble_eq_true rfl)) dX3_week_36 ⟨Nat.le_refl _, Nat.le_refl _⟩) rW_av rfl rfl mg_rW_pW_1 (fun H locs hP hS => ?_)
    refine lv_istore_n (lv' := [(2, .int r21), (0, .ref (ad 0))]) C.1 C.2.1 dX3_week_39 rfl hl (by decide) rfl (fun ls hl => ?_)
    refine lv_iload_n C.1 C.2.1 dX3_week_40 rfl (lv_at hl 0 rfl) ?_
    refine lv_iconst (v := (-1)) C.1 C.2.1 dX3_week_41 (by decide) ?_
    obtain ⟨u23, hR, hE⟩ := it_b hE
    have hJ72u23 : ∀ (H : Heap) (locs : List Loc) (ls : Array Slot), va_P G.1 vwCl (rW G.2 ad v_many u23.1 u18.1 v_seed u23.2.1 u23.2.2.1 u23.2.2.2.1 v_asked v_homes v_marks u18.2 v_allergic u23.2.2.2.2) H → va_S (nA (rWV ad)) s.heap H locs → lv_has ls 3 [(2, .int r21)] → W p l e ({ frames := 5, cells := 0, slots := 0, locals := 106 } : Room) s m args below meth c H locs 0 0 Q (F0 m 72 ls []) := by
      intro H locs ls hP hS hl
      refine lv_iload_n C.1 C.2.1 dX3_week_72 rfl (lv_at hl 0 rfl) ?_
      obtain rfl := Option.some.inj hE
      exact hret _ _ _ _ dX3_week_73 hP hS
    have hE := hR
    refine lv_icmp_eq (tgt := 72) C.1 C.2.1 dX3_week_42 (by decide) (fun c22 => ?_) (fun c22 => ?_)
    · have hE := it_t c22 hE
      obtain rfl := Option.some.inj hE
      exact hJ72u23 H locs ls hP hS (lv_sub hl [0] rfl)
    · have hE := it_f c22 hE
      refine lv_aload_n C.1 C.2.1 dX3_week_45 rfl (lv_at hl 1 rfl) ?_
      refine rWg_0_9 q203 C hP dX3_week_46 ?_
      refine lv_iload_n C.1 C.2.1 dX3_week_49 rfl (lv_at hl 0 rfl) ?_
      refine lv_dup2_11 C.1 C.2.1 dX3_week_50 rfl rfl ?_
      obtain ⟨g24, hE⟩ := it_g hE
      refine rWl_7 (v := (v_deaths (r21).toNatClampNeg)) C hP (gi_in g24) rfl dX3_week_51 ?_
      refine lv_iconst (v := 1) C.1 C.2.1 dX3_week_52 (by decide) ?_
      refine lv_iadd C.1 C.2.1 dX3_week_53 ?_
      obtain ⟨g25, hE⟩ := it_g hE
      refine rWs_7 C hP hS (gi_in g25) dX3_week_54 (fun H locs hP hS => ?_)
      refine lv_aload_n C.1 C.2.1 dX3_week_55 rfl (lv_at hl 1 rfl) ?_
      refine lv_dup C.1 C.2.1 dX3_week_56 rfl ?_
      refine rWg_0_1 q183 C hP dX3_week_57 ?_
      refine lv_iconst (v := 1) C.1 C.2.1 dX3_week_60 (by decide) ?_
      refine lv_iadd C.1 C.2.1 dX3_week_61 ?_
      refine rWp_0_1 q183 C hP hS dX3_week_62 (fun H locs hP hS => ?_)
      refine lv_aload_n C.1 C.2.1 dX3_week_65 rfl (lv_at hl 1 rfl) ?_
      refine rWg_0_4 q189 C hP dX3_week_66 ?_
      obtain ⟨r26, hr26, hE⟩ := it_b hE
      refine n_after [1, 2] C.2.2.2.2.2.1 C.2.2.2.2.2.2.2.1 hP hS (va_runV (As := []) (rest := []) ⟨C.1, C.2.1, hml, C.2.2.1, C.2.2.2.1⟩ (metC_Pet_replaced l G (fun i => ad (1 + i)) pl _ _ _ _   r26 hr26) (cwV (C := RX2) 0 C.2.2.2.1 (lw_V q1027 q1028 q1029 q82 q1030) rfl rfl rfl (by decide +kernel) ⟨Nat.le_of_ble_eq_true rfl, Nat.le_of_ble_eq_true rfl⟩) (n_preV C hP hS [1, 2] sub_rW_pW_1 (by decide) rfl (va_recv C.2.2.2.2.1 hP (ci := 11) (q0 := 1) rfl rfl)) rfl rfl hl.1 rfl (lv_room (Nat.le_of_ble_eq_true rfl)) dX3_week_69 ⟨Nat.le_refl _, Nat.le_refl _⟩) rW_av rfl rfl mg_rW_pW_1 (fun H locs hP hS => ?_)
      obtain rfl := Option.some.inj hE
      exact hJ72u23 H locs ls hP hS (lv_sub hl [0] rfl)
  have hE := hR
  refine lv_icmp_eq (tgt := 32) C.1 C.2.1 dX3_week_14 (by decide) (fun c17 => ?_) (fun c17 => ?_)
  · have hE := it_t c17 hE
    obtain rfl := Option.some.inj hE
    exact hJ32u18 H locs ls hP hS (lv_sub hl [0] rfl)
  · have hE := it_f c17 hE
    refine lv_aload_n C.1 C.2.1 dX3_week_17 rfl (lv_at hl 0 rfl) ?_
    refine rWg_0_7 q197 C hP dX3_week_18 ?_
    refine lv_iload_n C.1 C.2.1 dX3_week_21 rfl (lv_at hl 1 rfl) ?_
    refine lv_dup2_11 C.1 C.2.1 dX3_week_22 rfl rfl ?_
    obtain ⟨g19, hE⟩ := it_g hE
    refine rWl_5 (v := (v_had (p1).toNatClampNeg)) C hP (gi_in g19) rfl dX3_week_23 ?_
    refine lv_iconst (v := 1) C.1 C.2.1 dX3_week_24 (by decide) ?_
    refine lv_iadd C.1 C.2.1 dX3_week_25 ?_
    obtain ⟨g20, hE⟩ := it_g hE
    refine rWs_5 C hP hS (gi_in g20) dX3_week_26 (fun H locs hP hS => ?_)
    refine lv_aload_n C.1 C.2.1 dX3_week_27 rfl (lv_at hl 0 rfl) ?_
    refine lv_iload_n C.1 C.2.1 dX3_week_28 rfl (lv_at hl 1 rfl) ?_
    refine rWp_0_2 q185 C hP hS dX3_week_29 (fun H locs hP hS => ?_)
    obtain rfl := Option.some.inj hE
    exact hJ32u18 H locs ls hP hS (lv_sub hl [0] rfl)
def sC_Room_goesDraw (v_many : Int32) (v_pets : Int32) (v_last : Int32) (v_seed : Int32) (v_weight : Int32) (v_fright : Int32) (v_age : Int32) (v_asked : Nat → Int32) (v_homes : Nat → Option Nat) (v_had : Nat → Int32) (v_allergic : Nat → Int32) (v_deaths : Nat → Int32) (hk : Nat → Nat) (hb : Nat → Int32) : Option (Int32 × Int32 × Int32 × Int32 × Int32 × Int32 × Int32 × (Nat → Int32) × (Nat → Int32)) :=
  (sC_Room_mayMany v_many v_allergic).bind fun r1 =>
  (sC_Room_draw v_seed (r1 + 1)).bind fun r2 =>
  @Option.bind (Int32) _ (
    if r2.1 = r1 then
      some (-1)
    else
      (sC_Room_mayAt v_many v_allergic r2.1).bind fun r5 =>
      some r5) fun u4 =>
  (sC_Room_week v_many v_pets v_last v_weight v_fright v_age v_asked v_homes v_had v_deaths hk hb u4).bind fun r6 =>
  if r6.1 = (-1) then
    some (0, r6.2.1, r6.2.2.1, r2.2, r6.2.2.2.1, r6.2.2.2.2.1, r6.2.2.2.2.2.1, r6.2.2.2.2.2.2.1, r6.2.2.2.2.2.2.2)
  else
    some (1, r6.2.1, r6.2.2.1, r2.2, r6.2.2.2.1, r6.2.2.2.2.1, r6.2.2.2.2.2.1, r6.2.2.2.2.2.2.1, r6.2.2.2.2.2.2.2)
set_option maxHeartbeats 4000000 in
theorem metC_Room_goesDraw (l : Launch) (G : kG) (ad : Nat → Nat) (pl : va_W) (hk : Nat → Nat) (hb : Nat → Int32) (v_many : Int32) (v_pets : Int32) (v_last : Int32) (v_seed : Int32) (v_weight : Int32) (v_fright : Int32) (v_age : Int32) (v_asked : Nat → Int32) (v_homes : Nat → Option Nat) (v_marks : Nat → Int32) (v_had : Nat → Int32) (v_allergic : Nat → Int32) (v_deaths : Nat → Int32) (hom : homOK v_homes v_many hk hb pl)  (res : Int32 × Int32 × Int32 × Int32 × Int32 × Int32 × Int32 × (Nat → Int32) × (Nat → Int32)) (hE : sC_Room_goesDraw v_many v_pets v_last v_seed v_weight v_fright v_age v_asked v_homes v_had v_allergic v_deaths hk hb = some res) : Met l yX3_goesDraw (ws_ yX3_goesDraw cX3_goesDraw 3 (some .boolean)) ({ frames := 6, cells := 0, slots := 0, locals := 128 } : Room) (nPc G (rW G.2 ad v_many v_pets v_last v_seed v_weight v_fright v_age v_asked v_homes v_marks v_had v_allergic v_deaths) pl (rWV ad) [.ref (ad 0)]) (nQc G (rW G.2 ad v_many res.2.1 res.2.2.1 res.2.2.2.1 res.2.2.2.2.1 res.2.2.2.2.2.1 res.2.2.2.2.2.2.1 v_asked v_homes v_marks res.2.2.2.2.2.2.2.1 v_allergic res.2.2.2.2.2.2.2.2) (rWV ad) (some (.int res.1))) 0 0 (nA (rWV ad)) := by
  refine n_ofW (own := RX3) (by decide) rfl (Nat.le_of_ble_eq_true rfl) ?_
  intro p e s m args below meth c ls C hml hP hS hl hr hlocks
  have hl : lv_has ls 3 [(0, .ref (ad 0))] := hl
  obtain ⟨Q, hQ⟩ : ∃ Q, Q = MQ below (nQc G (rW G.2 ad v_many res.2.1 res.2.2.1 res.2.2.2.1 res.2.2.2.2.1 res.2.2.2.2.2.1 res.2.2.2.2.2.2.1 v_asked v_homes v_marks res.2.2.2.2.2.2.2.1 v_allergic res.2.2.2.2.2.2.2.2) (rWV ad) (some (.int res.1))) args s 0 0 (nA (rWV ad)) := ⟨_, rfl⟩
  rw [← hQ]
  have hret : ∀ (pc : Nat) (ls : Array Slot) (H : Heap) (locs : List Loc), narrow .boolean (.int res.1) = .int res.1 → decode cX3_goesDraw pc = .ok (.ireturn, 1) → va_P G.1 vwCl (rW G.2 ad v_many res.2.1 res.2.2.1 res.2.2.2.1 res.2.2.2.2.1 res.2.2.2.2.2.1 res.2.2.2.2.2.2.1 v_asked v_homes v_marks res.2.2.2.2.2.2.2.1 v_allergic res.2.2.2.2.2.2.2.2) H → va_S (nA (rWV ad)) s.heap H locs → W p l e ({ frames := 6, cells := 0, slots := 0, locals := 128 } : Room) s m args below meth c H locs 0 0 Q (F0 m pc ls [(.int res.1)]) := by
    intro pc ls H locs hn hd hP hS
    rw [hQ]
    exact n_zret C hr hlocks hn hd hP hS
  clear hQ
  obtain ⟨H, hH⟩ : ∃ H, H = s.heap := ⟨_, rfl⟩
  obtain ⟨locs, hlo⟩ : ∃ locs : List Loc, locs = [] := ⟨_, rfl⟩
  have hP : va_P G.1 vwCl (rW G.2 ad v_many v_pets v_last v_seed v_weight v_fright v_age v_asked v_homes v_marks v_had v_allergic v_deaths) H := by rw [hH]; exact hP
  have hS : va_S (nA (rWV ad)) s.heap H locs := by rw [hH, hlo]; exact hS
  suffices hZ : W p l e ({ frames := 6, cells := 0, slots := 0, locals := 128 } : Room) s m args below meth c H locs 0 0 Q (F0 m 0 ls []) by rw [hH, hlo] at hZ; exact hZ
  clear hH hlo
  unfold sC_Room_goesDraw at hE
  refine lv_aload_n C.1 C.2.1 dX3_goesDraw_0 rfl (lv_at hl 0 rfl) ?_
  obtain ⟨r1, hr1, hE⟩ := it_b hE
  refine n_afterS C.2.2.2.2.2.2.2.1 hS (va_runV (As := []) (rest := []) ⟨C.1, C.2.1, hml, C.2.2.1, C.2.2.2.1⟩ (metC_Room_mayMany l G ad pl _ _ _ _ _ _ _ _ _ _ _ _ _   r1 hr1) (cwV (C := RX3) 0 C.2.2.2.1 (lw_V q1193 q1114 q1115 q83 q1116) rfl rfl rfl (by decide +kernel) ⟨Nat.le_of_ble_eq_true rfl, Nat.le_of_ble_eq_true rfl⟩) (n_preV0 C hP hS (va_recv C.2.2.2.2.1 hP (ci := 12) (q0 := 0) rfl rfl)) rfl rfl hl.1 rfl (lv_room (Nat.le_of_ble_eq_true rfl)) dX3_goesDraw_1 ⟨Nat.le_refl _, Nat.le_refl _⟩) (fun H locs hP hS => ?_)
  refine lv_istore_n (lv' := [(1, .int r1), (0, .ref (ad 0))]) C.1 C.2.1 dX3_goesDraw_4 rfl hl (by decide) rfl (fun ls hl => ?_)
  refine lv_aload_n C.1 C.2.1 dX3_goesDraw_5 rfl (lv_at hl 1 rfl) ?_
  refine lv_iload_n C.1 C.2.1 dX3_goesDraw_6 rfl (lv_at hl 0 rfl) ?_
  refine lv_iconst (v := 1) C.1 C.2.1 dX3_goesDraw_7 (by decide) ?_
  refine lv_iadd C.1 C.2.1 dX3_goesDraw_8 ?_
  obtain ⟨r2, hr2, hE⟩ := it_b hE
  refine n_afterS C.2.2.2.2.2.2.2.1 hS (va_runV (As := [.int (r1 + 1)]) (rest := []) ⟨C.1, C.2.1, hml, C.2.2.1, C.2.2.2.1⟩ (metC_Room_draw l G ad pl _ _ _ _ _ _ _ _ _ _ _ _ _ (r1 + 1)  r2 hr2) (cwV (C := RX3) 1 C.2.2.2.1 (lw_V q1194 q1195 q1196 q83 q1197) rfl rfl rfl (by decide +kernel) ⟨Nat.le_of_ble_eq_true rfl, Nat.le_of_ble_eq_true rfl⟩) (n_preV0 C hP hS (va_recv C.2.2.2.2.1 hP (ci := 12) (q0 := 0) rfl rfl)) rfl rfl hl.1 rfl (lv_room (Nat.le_of_ble_eq_true rfl)) dX3_goesDraw_9 ⟨Nat.le_refl _, Nat.le_refl _⟩) (fun H locs hP hS => ?_)
  refine lv_istore_n (lv' := [(2, .int r2.1), (1, .int r1), (0, .ref (ad 0))]) C.1 C.2.1 dX3_goesDraw_12 rfl hl (by decide) rfl (fun ls hl => ?_)
  refine lv_aload_n C.1 C.2.1 dX3_goesDraw_13 rfl (lv_at hl 2 rfl) ?_
  refine lv_iload_n C.1 C.2.1 dX3_goesDraw_14 rfl (lv_at hl 0 rfl) ?_
  refine lv_iload_n C.1 C.2.1 dX3_goesDraw_15 rfl (lv_at hl 1 rfl) ?_
  obtain ⟨u4, hR, hE⟩ := it_b hE
  have hJ28u4 : ∀ (H : Heap) (locs : List Loc) (ls : Array Slot), va_P G.1 vwCl (rW G.2 ad v_many v_pets v_last r2.2 v_weight v_fright v_age v_asked v_homes v_marks v_had v_allergic v_deaths) H → va_S (nA (rWV ad)) s.heap H locs → lv_has ls 3 [] → W p l e ({ frames := 6, cells := 0, slots := 0, locals := 128 } : Room) s m args below meth c H locs 0 0 Q (F0 m 28 ls [.int u4, .ref (ad 0)]) := by
    intro H locs ls hP hS hl
    obtain ⟨r6, hr6, hE⟩ := it_b hE
    refine n_afterS C.2.2.2.2.2.2.2.1 hS (va_runV (As := [.int u4]) (rest := []) ⟨C.1, C.2.1, hml, C.2.2.1, C.2.2.2.1⟩ (metC_Room_week l G ad pl hk hb _ _ _ _ _ _ _ _ _ _ _ _ _ hom u4  r6 hr6) (cwV (C := RX3) 1 C.2.2.2.1 (lw_V q1203 q977 q978 q83 q979) rfl rfl rfl (by decide +kernel) ⟨Nat.le_of_ble_eq_true rfl, Nat.le_of_ble_eq_true rfl⟩) (n_preV0 C hP hS (va_recv C.2.2.2.2.1 hP (ci := 12) (q0 := 0) rfl rfl)) rfl rfl hl.1 rfl (lv_room (Nat.le_of_ble_eq_true rfl)) dX3_goesDraw_28 ⟨Nat.le_refl _, Nat.le_refl _⟩) (fun H locs hP hS => ?_)
    refine lv_iconst (v := (-1)) C.1 C.2.1 dX3_goesDraw_31 (by decide) ?_
    refine lv_icmp_eq (tgt := 39) C.1 C.2.1 dX3_goesDraw_32 (by decide) (fun c7 => ?_) (fun c7 => ?_)
    · have hE := it_t c7 hE
      refine lv_iconst (v := 0) C.1 C.2.1 dX3_goesDraw_39 (by decide) ?_
      obtain rfl := Option.some.inj hE
      exact hret _ _ _ _ (nbz (Or.inl rfl)) dX3_goesDraw_40 hP hS
    · have hE := it_f c7 hE
      refine lv_iconst (v := 1) C.1 C.2.1 dX3_goesDraw_35 (by decide) ?_
      refine lv_goto (tgt := 40) C.1 C.2.1 dX3_goesDraw_36 (by decide) ?_
      obtain rfl := Option.some.inj hE
      exact hret _ _ _ _ (nbz (Or.inr rfl)) dX3_goesDraw_40 hP hS
  have hE := hR
  refine lv_icmp_ne (tgt := 23) C.1 C.2.1 dX3_goesDraw_16 (by decide) (fun c3 => ?_) (fun c3 => ?_)
  · have hE := it_f c3 hE
    refine lv_aload_n C.1 C.2.1 dX3_goesDraw_23 rfl (lv_at hl 2 rfl) ?_
    refine lv_iload_n C.1 C.2.1 dX3_goesDraw_24 rfl (lv_at hl 0 rfl) ?_
    obtain ⟨r5, hr5, hE⟩ := it_b hE
    refine n_afterS C.2.2.2.2.2.2.2.1 hS (va_runV (As := [.int r2.1]) (rest := [.ref (ad 0)]) ⟨C.1, C.2.1, hml, C.2.2.1, C.2.2.2.1⟩ (metC_Room_mayAt l G ad pl _ _ _ _ _ _ _ _ _ _ _ _ _ r2.1  r5 hr5) (cwV (C := RX3) 1 C.2.2.2.1 (lw_V q1199 q1200 q1201 q83 q1202) rfl rfl rfl (by decide +kernel) ⟨Nat.le_of_ble_eq_true rfl, Nat.le_of_ble_eq_true rfl⟩) (n_preV0 C hP hS (va_recv C.2.2.2.2.1 hP (ci := 12) (q0 := 0) rfl rfl)) rfl rfl hl.1 rfl (lv_room (Nat.le_of_ble_eq_true rfl)) dX3_goesDraw_25 ⟨Nat.le_refl _, Nat.le_refl _⟩) (fun H locs hP hS => ?_)
    obtain rfl := Option.some.inj hE
    exact hJ28u4 H locs ls hP hS (lv_sub hl [] rfl)
  · have hE := it_t c3 hE
    refine lv_iconst (v := (-1)) C.1 C.2.1 dX3_goesDraw_19 (by decide) ?_
    refine lv_goto (tgt := 28) C.1 C.2.1 dX3_goesDraw_20 (by decide) ?_
    obtain rfl := Option.some.inj hE
    exact hJ28u4 H locs ls hP hS (lv_sub hl [] rfl)
def sC_HW_beyond (v_refusals : Nat → Int32) : Option (Int32 × (Nat → Int32)) :=
  some ((-5), (upd v_refusals 5 ((v_refusals 5) + 1)))
set_option maxHeartbeats 4000000 in
theorem metC_HW_beyond (l : Launch) (G : kG) (ad : Nat → Nat) (pl : va_W) (v_latestFault : Int32) (v_died : Int32) (v_leastWeight : Int32) (v_noticedBy : Int32) (v_noticed : Int32) (v_orderDied : Int32) (v_orderLeast : Int32) (v_imaged : Option Nat) (v_shelves : Nat → Option Nat) (v_refusals : Nat → Int32) (v_ran : Int32) (v_bodies : Nat → Int32) (v_tweight : Int32) (v_tfright : Int32) (v_tage : Int32) (v_tasked : Nat → Int32) (v_told : Nat → Int32) (v_bestRow : Nat → Int32) (v_weight_a1 : Int32) (v_fright_a1 : Int32) (v_age_a1 : Int32) (v_asked_a1 : Nat → Int32) (v_weight_a2 : Int32) (v_fright_a2 : Int32) (v_age_a2 : Int32) (v_asked_a2 : Nat → Int32) (v_weight_a3 : Int32) (v_fright_a3 : Int32) (v_age_a3 : Int32) (v_asked_a3 : Nat → Int32) (v_weight_a4 : Int32) (v_fright_a4 : Int32) (v_age_a4 : Int32) (v_asked_a4 : Nat → Int32) (v_many : Int32) (v_pets : Int32) (v_last : Int32) (v_seed : Int32) (v_weight : Int32) (v_fright : Int32) (v_age : Int32) (v_asked : Nat → Int32) (v_homes : Nat → Option Nat) (v_marks : Nat → Int32) (v_had : Nat → Int32) (v_allergic : Nat → Int32) (v_deaths : Nat → Int32)  (res : Int32 × (Nat → Int32)) (hE : sC_HW_beyond v_refusals = some res) : Met l yX0_beyond (ws_ yX0_beyond cX0_beyond 1 (some .int)) ({ frames := 0, cells := 0, slots := 0, locals := 0 } : Room) (nPc G (xW G.2 ad v_latestFault v_died v_leastWeight v_noticedBy v_noticed v_orderDied v_orderLeast v_imaged v_shelves v_refusals v_ran v_bodies v_tweight v_tfright v_tage v_tasked v_told v_bestRow v_weight_a1 v_fright_a1 v_age_a1 v_asked_a1 v_weight_a2 v_fright_a2 v_age_a2 v_asked_a2 v_weight_a3 v_fright_a3 v_age_a3 v_asked_a3 v_weight_a4 v_fright_a4 v_age_a4 v_asked_a4 v_many v_pets v_last v_seed v_weight v_fright v_age v_asked v_homes v_marks v_had v_allergic v_deaths) pl (xWV ad) [.ref (ad 0)]) (nQc G (xW G.2 ad v_latestFault v_died v_leastWeight v_noticedBy v_noticed v_orderDied v_orderLeast v_imaged v_shelves res.2 v_ran v_bodies v_tweight v_tfright v_tage v_tasked v_told v_bestRow v_weight_a1 v_fright_a1 v_age_a1 v_asked_a1 v_weight_a2 v_fright_a2 v_age_a2 v_asked_a2 v_weight_a3 v_fright_a3 v_age_a3 v_asked_a3 v_weight_a4 v_fright_a4 v_age_a4 v_asked_a4 v_many v_pets v_last v_seed v_weight v_fright v_age v_asked v_homes v_marks v_had v_allergic v_deaths) (xWV ad) (some (.int res.1))) 0 0 (nA (xWV ad)) := by
  refine n_ofW (own := RX0) (by decide) rfl (Nat.le_of_ble_eq_true rfl) ?_
  intro p e s m args below meth c ls C hml hP hS hl hr hlocks
  have hl : lv_has ls 1 [(0, .ref (ad 0))] := hl
  obtain ⟨Q, hQ⟩ : ∃ Q, Q = MQ below (nQc G (xW G.2 ad v_latestFault v_died v_leastWeight v_noticedBy v_noticed v_orderDied v_orderLeast v_imaged v_shelves res.2 v_ran v_bodies v_tweight v_tfright v_tage v_tasked v_told v_bestRow v_weight_a1 v_fright_a1 v_age_a1 v_asked_a1 v_weight_a2 v_fright_a2 v_age_a2 v_asked_a2 v_weight_a3 v_fright_a3 v_age_a3 v_asked_a3 v_weight_a4 v_fright_a4 v_age_a4 v_asked_a4 v_many v_pets v_last v_seed v_weight v_fright v_age v_asked v_homes v_marks v_had v_allergic v_deaths) (xWV ad) (some (.int res.1))) args s 0 0 (nA (xWV ad)) := ⟨_, rfl⟩
  rw [← hQ]
  have hret : ∀ (pc : Nat) (ls : Array Slot) (H : Heap) (locs : List Loc), decode cX0_beyond pc = .ok (.ireturn, 1) → va_P G.1 vwCl (xW G.2 ad v_latestFault v_died v_leastWeight v_noticedBy v_noticed v_orderDied v_orderLeast v_imaged v_shelves res.2 v_ran v_bodies v_tweight v_tfright v_tage v_tasked v_told v_bestRow v_weight_a1 v_fright_a1 v_age_a1 v_asked_a1 v_weight_a2 v_fright_a2 v_age_a2 v_asked_a2 v_weight_a3 v_fright_a3 v_age_a3 v_asked_a3 v_weight_a4 v_fright_a4 v_age_a4 v_asked_a4 v_many v_pets v_last v_seed v_weight v_fright v_age v_asked v_homes v_marks v_had v_allergic v_deaths) H → va_S (nA (xWV ad)) s.heap H locs → W p l e ({ frames := 0, cells := 0, slots := 0, locals := 0 } : Room) s m args below meth c H locs 0 0 Q (F0 m pc ls [(.int res.1)]) := by
    intro pc ls H locs hd hP hS
    rw [hQ]
    exact n_iret C hr hlocks hd hP hS
  clear hQ
  obtain ⟨H, hH⟩ : ∃ H, H = s.heap := ⟨_, rfl⟩
  obtain ⟨locs, hlo⟩ : ∃ locs : List Loc, locs = [] := ⟨_, rfl⟩
  have hP : va_P G.1 vwCl (xW G.2 ad v_latestFault v_died v_leastWeight v_noticedBy v_noticed v_orderDied v_orderLeast v_imaged v_shelves v_refusals v_ran v_bodies v_tweight v_tfright v_tage v_tasked v_told v_bestRow v_weight_a1 v_fright_a1 v_age_a1 v_asked_a1 v_weight_a2 v_fright_a2 v_age_a2 v_asked_a2 v_weight_a3 v_fright_a3 v_age_a3 v_asked_a3 v_weight_a4 v_fright_a4 v_age_a4 v_asked_a4 v_many v_pets v_last v_seed v_weight v_fright v_age v_asked v_homes v_marks v_had v_allergic v_deaths) H := by rw [hH]; exact hP
  have hS : va_S (nA (xWV ad)) s.heap H locs := by rw [hH, hlo]; exact hS
  suffices hZ : W p l e ({ frames := 0, cells := 0, slots := 0, locals := 0 } : Room) s m args below meth c H locs 0 0 Q (F0 m 0 ls []) by rw [hH, hlo] at hZ; exact hZ
  clear hH hlo
  unfold sC_HW_beyond at hE
  refine lv_aload_n C.1 C.2.1 dX0_beyond_0 rfl (lv_at hl 0 rfl) ?_
  refine xWg_0_1 q239 C hP dX0_beyond_1 ?_
  refine lv_iconst (v := 5) C.1 C.2.1 dX0_beyond_4 (by decide) ?_
  refine lv_dup2_11 C.1 C.2.1 dX0_beyond_5 rfl rfl ?_
  refine xWl_2 (v := (v_refusals 5)) C hP (gi_in (by decide)) rfl dX0_beyond_6 ?_
  refine lv_iconst (v := 1) C.1 C.2.1 dX0_beyond_7 (by decide) ?_
  refine lv_iadd C.1 C.2.1 dX0_beyond_8 ?_
  refine xWs_2 C hP hS (gi_in (by decide)) dX0_beyond_9 (fun H locs hP hS => ?_)
  refine lv_bipush (v := (-5)) C.1 C.2.1 dX0_beyond_10 (by decide) ?_
  obtain rfl := Option.some.inj hE
  exact hret _ _ _ _ dX0_beyond_12 hP hS
def sC_HW_mayAsk (p0 : Int32) (p1 : Int32) : Option (Int32) :=
  if p0 = 0 then
    (sC_HW_in ((p1 : Int32).toInt64) 0 400).bind fun r2 =>
    if r2 = 0 ∨ r2 = 1 then
    some r2
    else none
  else
  if p0 = 1 then
    (sC_HW_in ((p1 : Int32).toInt64) 0 99).bind fun r5 =>
    if r5 = 0 ∨ r5 = 1 then
    some r5
    else none
  else
  if p0 = 2 then
    (sC_HW_in ((p1 : Int32).toInt64) 0 999).bind fun r8 =>
    if r8 = 0 ∨ r8 = 1 then
    some r8
    else none
  else
  if p0 = 3 then
    (sC_HW_in ((p1 : Int32).toInt64) 0 9).bind fun r11 =>
    if r11 = 0 ∨ r11 = 1 then
    some r11
    else none
  else
  if p0 = 4 then
    (sC_HW_in ((p1 : Int32).toInt64) 1 999).bind fun r14 =>
    if r14 = 0 ∨ r14 = 1 then
    some r14
    else none
  else
  if p0 = 5 then
    (sC_HW_in ((p1 : Int32).toInt64) 0 200).bind fun r17 =>
    if r17 = 0 then
      some 0
    else
      some 1
  else
    some 0
set_option maxHeartbeats 4000000 in
theorem metC_HW_mayAsk (l : Launch) (G : kG) (ad : Nat → Nat) (pl : va_W)  (p0 : Int32) (p1 : Int32) (res : Int32) (hE : sC_HW_mayAsk p0 p1 = some res) : Met l yX0_mayAsk (ws_ yX0_mayAsk cX0_mayAsk 2 (some .boolean)) ({ frames := 1, cells := 0, slots := 0, locals := 25 } : Room) (nPc G [] pl [] [.int p0, .int p1]) (nQc G [] [] (some (.int res))) 0 0 (nA []) := by
  refine n_ofW (own := RX0) (by decide) rfl (Nat.le_of_ble_eq_true rfl) ?_
  intro p e s m args below meth c ls C hml hP hS hl hr hlocks
  have hl : lv_has ls 2 [(0, .int p0), (1, .int p1)] := hl
  obtain ⟨Q, hQ⟩ : ∃ Q, Q = MQ below (nQc G [] [] (some (.int res))) args s 0 0 (nA []) := ⟨_, rfl⟩
  rw [← hQ]
  have hret : ∀ (pc : Nat) (ls : Array Slot) (H : Heap) (locs : List Loc), narrow .boolean (.int res) = .int res → decode cX0_mayAsk pc = .ok (.ireturn, 1) → va_P G.1 vwCl [] H → va_S (nA []) s.heap H locs → W p l e ({ frames := 1, cells := 0, slots := 0, locals := 25 } : Room) s m args below meth c H locs 0 0 Q (F0 m pc ls [(.int res)]) := by
    intro pc ls H locs hn hd hP hS
    rw [hQ]
    exact n_zret C hr hlocks hn hd hP hS
  clear hQ
  obtain ⟨H, hH⟩ : ∃ H, H = s.heap := ⟨_, rfl⟩
  obtain ⟨locs, hlo⟩ : ∃ locs : List Loc, locs = [] := ⟨_, rfl⟩
  have hP : va_P G.1 vwCl [] H := by rw [hH]; exact hP
  have hS : va_S (nA []) s.heap H locs := by rw [hH, hlo]; exact hS
  suffices hZ : W p l e ({ frames := 1, cells := 0, slots := 0, locals := 25 } : Room) s m args below meth c H locs 0 0 Q (F0 m 0 ls []) by rw [hH, hlo] at hZ; exact hZ
  clear hH hlo
  unfold sC_HW_mayAsk at hE
  refine lv_iload_n C.1 C.2.1 dX0_mayAsk_0 rfl (lv_at hl 0 rfl) ?_
  by_cases c1 : p0 = 0
  · have hE := it_t c1 hE
    refine lv_tableIn (tgt := 36) C.1 C.2.1 dX0_mayAsk_1 (by rw [c1]; decide) (by rw [c1]; decide) (by rw [c1]; rfl) (by decide) ?_
    refine lv_iload_n C.1 C.2.1 dX0_mayAsk_36 rfl (lv_at hl 1 rfl) ?_
    refine lv_i2l C.1 C.2.1 dX0_mayAsk_37 rfl ?_
    refine lv_lconst (v := 0) C.1 C.2.1 dX0_mayAsk_38 (by decide) ?_
    refine lv_ldc2 C.1 C.2.1 C.2.2.1 (C.2.2.2.1 _ q778) dX0_mayAsk_39 ?_
    obtain ⟨r2, hr2, hE⟩ := it_b hE
    refine n_afterS C.2.2.2.2.2.2.2.1 hS (va_runS (As := [.long ((p1 : Int32).toInt64), .long 0, .long 400]) (rest := []) ⟨C.1, C.2.1, hml, C.2.2.1, C.2.2.2.1⟩ (metC_HW_in l G ad pl  ((p1 : Int32).toInt64) 0 400  r2 hr2) (va_cwS 3 C.2.2.2.1 (lw_S q401 q402 q80 q403) rfl rfl rfl (by decide +kernel) ⟨Nat.le_of_ble_eq_true rfl, Nat.le_of_ble_eq_true rfl⟩) (n_preS0 C hP hS) rfl rfl hl.1 rfl (lv_room (Nat.le_of_ble_eq_true rfl)) dX0_mayAsk_42 ⟨Nat.le_refl _, Nat.le_refl _⟩) (fun H locs hP hS => ?_)
    obtain ⟨g3, hE⟩ := it_g hE
    obtain rfl := Option.some.inj hE
    exact hret _ _ _ _ (nbz g3) dX0_mayAsk_45 hP hS
  have hE := it_f c1 hE
  by_cases c4 : p0 = 1
  · have hE := it_t c4 hE
    refine lv_tableIn (tgt := 46) C.1 C.2.1 dX0_mayAsk_1 (by rw [c4]; decide) (by rw [c4]; decide) (by rw [c4]; rfl) (by decide) ?_
    refine lv_iload_n C.1 C.2.1 dX0_mayAsk_46 rfl (lv_at hl 1 rfl) ?_
    refine lv_i2l C.1 C.2.1 dX0_mayAsk_47 rfl ?_
    refine lv_lconst (v := 0) C.1 C.2.1 dX0_mayAsk_48 (by decide) ?_
    refine lv_ldc2 C.1 C.2.1 C.2.2.1 (C.2.2.2.1 _ q779) dX0_mayAsk_49 ?_
    obtain ⟨r5, hr5, hE⟩ := it_b hE
    refine n_afterS C.2.2.2.2.2.2.2.1 hS (va_runS (As := [.long ((p1 : Int32).toInt64), .long 0, .long 99]) (rest := []) ⟨C.1, C.2.1, hml, C.2.2.1, C.2.2.2.1⟩ (metC_HW_in l G ad pl  ((p1 : Int32).toInt64) 0 99  r5 hr5) (va_cwS 3 C.2.2.2.1 (lw_S q401 q402 q80 q403) rfl rfl rfl (by decide +kernel) ⟨Nat.le_of_ble_eq_true rfl, Nat.le_of_ble_eq_true rfl⟩) (n_preS0 C hP hS) rfl rfl hl.1 rfl (lv_room (Nat.le_of_ble_eq_true rfl)) dX0_mayAsk_52 ⟨Nat.le_refl _, Nat.le_refl _⟩) (fun H locs hP hS => ?_)
    obtain ⟨g6, hE⟩ := it_g hE
    obtain rfl := Option.some.inj hE
    exact hret _ _ _ _ (nbz g6) dX0_mayAsk_55 hP hS
  have hE := it_f c4 hE
  by_cases c7 : p0 = 2
  · have hE := it_t c7 hE
    refine lv_tableIn (tgt := 56) C.1 C.2.1 dX0_mayAsk_1 (by rw [c7]; decide) (by rw [c7]; decide) (by rw [c7]; rfl) (by decide) ?_
    refine lv_iload_n C.1 C.2.1 dX0_mayAsk_56 rfl (lv_at hl 1 rfl) ?_
    refine lv_i2l C.1 C.2.1 dX0_mayAsk_57 rfl ?_
    refine lv_lconst (v := 0) C.1 C.2.1 dX0_mayAsk_58 (by decide) ?_
    refine lv_ldc2 C.1 C.2.1 C.2.2.1 (C.2.2.2.1 _ q780) dX0_mayAsk_59 ?_
    obtain ⟨r8, hr8, hE⟩ := it_b hE
    refine n_afterS C.2.2.2.2.2.2.2.1 hS (va_runS (As := [.long ((p1 : Int32).toInt64), .long 0, .long 999]) (rest := []) ⟨C.1, C.2.1, hml, C.2.2.1, C.2.2.2.1⟩ (metC_HW_in l G ad pl  ((p1 : Int32).toInt64) 0 999  r8 hr8) (va_cwS 3 C.2.2.2.1 (lw_S q401 q402 q80 q403) rfl rfl rfl (by decide +kernel) ⟨Nat.le_of_ble_eq_true rfl, Nat.le_of_ble_eq_true rfl⟩) (n_preS0 C hP hS) rfl rfl hl.1 rfl (lv_room (Nat.le_of_ble_eq_true rfl)) dX0_mayAsk_62 ⟨Nat.le_refl _, Nat.le_refl _⟩) (fun H locs hP hS => ?_)
    obtain ⟨g9, hE⟩ := it_g hE
    obtain rfl := Option.some.inj hE
    exact hret _ _ _ _ (nbz g9) dX0_mayAsk_65 hP hS
  have hE := it_f c7 hE
  by_cases c10 : p0 = 3
  · have hE := it_t c10 hE
    refine lv_tableIn (tgt := 66) C.1 C.2.1 dX0_mayAsk_1 (by rw [c10]; decide) (by rw [c10]; decide) (by rw [c10]; rfl) (by decide) ?_
    refine lv_iload_n C.1 C.2.1 dX0_mayAsk_66 rfl (lv_at hl 1 rfl) ?_
    refine lv_i2l C.1 C.2.1 dX0_mayAsk_67 rfl ?_
    refine lv_lconst (v := 0) C.1 C.2.1 dX0_mayAsk_68 (by decide) ?_
    refine lv_ldc2 C.1 C.2.1 C.2.2.1 (C.2.2.2.1 _ q648) dX0_mayAsk_69 ?_
    obtain ⟨r11, hr11, hE⟩ := it_b hE
    refine n_afterS C.2.2.2.2.2.2.2.1 hS (va_runS (As := [.long ((p1 : Int32).toInt64), .long 0, .long 9]) (rest := []) ⟨C.1, C.2.1, hml, C.2.2.1, C.2.2.2.1⟩ (metC_HW_in l G ad pl  ((p1 : Int32).toInt64) 0 9  r11 hr11) (va_cwS 3 C.2.2.2.1 (lw_S q401 q402 q80 q403) rfl rfl rfl (by decide +kernel) ⟨Nat.le_of_ble_eq_true rfl, Nat.le_of_ble_eq_true rfl⟩) (n_preS0 C hP hS) rfl rfl hl.1 rfl (lv_room (Nat.le_of_ble_eq_true rfl)) dX0_mayAsk_72 ⟨Nat.le_refl _, Nat.le_refl _⟩) (fun H locs hP hS => ?_)
    obtain ⟨g12, hE⟩ := it_g hE
    obtain rfl := Option.some.inj hE
    exact hret _ _ _ _ (nbz g12) dX0_mayAsk_75 hP hS
  have hE := it_f c10 hE
  by_cases c13 : p0 = 4
  · have hE := it_t c13 hE
    refine lv_tableIn (tgt := 76) C.1 C.2.1 dX0_mayAsk_1 (by rw [c13]; decide) (by rw [c13]; decide) (by rw [c13]; rfl) (by decide) ?_
    refine lv_iload_n C.1 C.2.1 dX0_mayAsk_76 rfl (lv_at hl 1 rfl) ?_
    refine lv_i2l C.1 C.2.1 dX0_mayAsk_77 rfl ?_
    refine lv_lconst (v := 1) C.1 C.2.1 dX0_mayAsk_78 (by decide) ?_
    refine lv_ldc2 C.1 C.2.1 C.2.2.1 (C.2.2.2.1 _ q780) dX0_mayAsk_79 ?_
    obtain ⟨r14, hr14, hE⟩ := it_b hE
    refine n_afterS C.2.2.2.2.2.2.2.1 hS (va_runS (As := [.long ((p1 : Int32).toInt64), .long 1, .long 999]) (rest := []) ⟨C.1, C.2.1, hml, C.2.2.1, C.2.2.2.1⟩ (metC_HW_in l G ad pl  ((p1 : Int32).toInt64) 1 999  r14 hr14) (va_cwS 3 C.2.2.2.1 (lw_S q401 q402 q80 q403) rfl rfl rfl (by decide +kernel) ⟨Nat.le_of_ble_eq_true rfl, Nat.le_of_ble_eq_true rfl⟩) (n_preS0 C hP hS) rfl rfl hl.1 rfl (lv_room (Nat.le_of_ble_eq_true rfl)) dX0_mayAsk_82 ⟨Nat.le_refl _, Nat.le_refl _⟩) (fun H locs hP hS => ?_)
    obtain ⟨g15, hE⟩ := it_g hE
    obtain rfl := Option.some.inj hE
    exact hret _ _ _ _ (nbz g15) dX0_mayAsk_85 hP hS
  have hE := it_f c13 hE
  refine lv_tableOut (tgt := 86) C.1 C.2.1 dX0_mayAsk_1 (ts_e (ts_s (ts_s (ts_s (ts_s (ts_s (ts_0 0) c1 rfl rfl) c4 rfl rfl) c7 rfl rfl) c10 rfl rfl) c13 rfl rfl) rfl) (by decide) ?_
  refine lv_iload_n C.1 C.2.1 dX0_mayAsk_86 rfl (lv_at hl 0 rfl) ?_
  refine lv_iconst (v := 5) C.1 C.2.1 dX0_mayAsk_87 (by decide) ?_
  refine lv_icmp_ne (tgt := 107) C.1 C.2.1 dX0_mayAsk_88 (by decide) (fun c16 => ?_) (fun c16 => ?_)
  · have hE := it_f c16 hE
    refine lv_iconst (v := 0) C.1 C.2.1 dX0_mayAsk_107 (by decide) ?_
    obtain rfl := Option.some.inj hE
    exact hret _ _ _ _ (nbz (Or.inl rfl)) dX0_mayAsk_108 hP hS
  · have hE := it_t c16 hE
    refine lv_iload_n C.1 C.2.1 dX0_mayAsk_91 rfl (lv_at hl 1 rfl) ?_
    refine lv_i2l C.1 C.2.1 dX0_mayAsk_92 rfl ?_
    refine lv_lconst (v := 0) C.1 C.2.1 dX0_mayAsk_93 (by decide) ?_
    refine lv_ldc2 C.1 C.2.1 C.2.2.1 (C.2.2.2.1 _ q781) dX0_mayAsk_94 ?_
    obtain ⟨r17, hr17, hE⟩ := it_b hE
    refine n_afterS C.2.2.2.2.2.2.2.1 hS (va_runS (As := [.long ((p1 : Int32).toInt64), .long 0, .long 200]) (rest := []) ⟨C.1, C.2.1, hml, C.2.2.1, C.2.2.2.1⟩ (metC_HW_in l G ad pl  ((p1 : Int32).toInt64) 0 200  r17 hr17) (va_cwS 3 C.2.2.2.1 (lw_S q401 q402 q80 q403) rfl rfl rfl (by decide +kernel) ⟨Nat.le_of_ble_eq_true rfl, Nat.le_of_ble_eq_true rfl⟩) (n_preS0 C hP hS) rfl rfl hl.1 rfl (lv_room (Nat.le_of_ble_eq_true rfl)) dX0_mayAsk_97 ⟨Nat.le_refl _, Nat.le_refl _⟩) (fun H locs hP hS => ?_)
    refine lv_if_eq (tgt := 107) C.1 C.2.1 dX0_mayAsk_100 (by decide) (fun c18 => ?_) (fun c18 => ?_)
    · have hE := it_t c18 hE
      refine lv_iconst (v := 0) C.1 C.2.1 dX0_mayAsk_107 (by decide) ?_
      obtain rfl := Option.some.inj hE
      exact hret _ _ _ _ (nbz (Or.inl rfl)) dX0_mayAsk_108 hP hS
    · have hE := it_f c18 hE
      refine lv_iconst (v := 1) C.1 C.2.1 dX0_mayAsk_103 (by decide) ?_
      refine lv_goto (tgt := 108) C.1 C.2.1 dX0_mayAsk_104 (by decide) ?_
      obtain rfl := Option.some.inj hE
      exact hret _ _ _ _ (nbz (Or.inr rfl)) dX0_mayAsk_108 hP hS
def sC_HW_asked (v_weight : Int32) (v_fright : Int32) (v_age : Int32) (v_asked : Nat → Int32) (p1 : Int32) : Option (Int32) :=
  if p1 = 0 then
    some v_weight
  else
  if p1 = 1 then
    some v_fright
  else
  if p1 = 2 then
    some v_age
  else
  if gi (p1 - 3) 3 then
  some (v_asked ((p1 - 3)).toNatClampNeg)
  else none
set_option maxHeartbeats 4000000 in
theorem metC_HW_asked (l : Launch) (G : kG) (ad : Nat → Nat) (pl : va_W) (v_latestFault : Int32) (v_died : Int32) (v_leastWeight : Int32) (v_noticedBy : Int32) (v_noticed : Int32) (v_orderDied : Int32) (v_orderLeast : Int32) (v_imaged : Option Nat) (v_shelves : Nat → Option Nat) (v_refusals : Nat → Int32) (v_ran : Int32) (v_bodies : Nat → Int32) (v_tweight : Int32) (v_tfright : Int32) (v_tage : Int32) (v_tasked : Nat → Int32) (v_told : Nat → Int32) (v_bestRow : Nat → Int32) (v_weight_a1 : Int32) (v_fright_a1 : Int32) (v_age_a1 : Int32) (v_asked_a1 : Nat → Int32) (v_weight_a2 : Int32) (v_fright_a2 : Int32) (v_age_a2 : Int32) (v_asked_a2 : Nat → Int32) (v_weight_a3 : Int32) (v_fright_a3 : Int32) (v_age_a3 : Int32) (v_asked_a3 : Nat → Int32) (v_weight_a4 : Int32) (v_fright_a4 : Int32) (v_age_a4 : Int32) (v_asked_a4 : Nat → Int32) (v_many : Int32) (v_pets : Int32) (v_last : Int32) (v_seed : Int32) (v_weight : Int32) (v_fright : Int32) (v_age : Int32) (v_asked : Nat → Int32) (v_homes : Nat → Option Nat) (v_marks : Nat → Int32) (v_had : Nat → Int32) (v_allergic : Nat → Int32) (v_deaths : Nat → Int32) (p1 : Int32) (res : Int32) (hE : sC_HW_asked v_weight v_fright v_age v_asked p1 = some res) : Met l yX0_asked (ws_ yX0_asked cX0_asked 2 (some .int)) ({ frames := 0, cells := 0, slots := 0, locals := 0 } : Room) (nPc G (xW G.2 ad v_latestFault v_died v_leastWeight v_noticedBy v_noticed v_orderDied v_orderLeast v_imaged v_shelves v_refusals v_ran v_bodies v_tweight v_tfright v_tage v_tasked v_told v_bestRow v_weight_a1 v_fright_a1 v_age_a1 v_asked_a1 v_weight_a2 v_fright_a2 v_age_a2 v_asked_a2 v_weight_a3 v_fright_a3 v_age_a3 v_asked_a3 v_weight_a4 v_fright_a4 v_age_a4 v_asked_a4 v_many v_pets v_last v_seed v_weight v_fright v_age v_asked v_homes v_marks v_had v_allergic v_deaths) pl (xWV ad) [.ref (ad 0), .int p1]) (nQc G (xW G.2 ad v_latestFault v_died v_leastWeight v_noticedBy v_noticed v_orderDied v_orderLeast v_imaged v_shelves v_refusals v_ran v_bodies v_tweight v_tfright v_tage v_tasked v_told v_bestRow v_weight_a1 v_fright_a1 v_age_a1 v_asked_a1 v_weight_a2 v_fright_a2 v_age_a2 v_asked_a2 v_weight_a3 v_fright_a3 v_age_a3 v_asked_a3 v_weight_a4 v_fright_a4 v_age_a4 v_asked_a4 v_many v_pets v_last v_seed v_weight v_fright v_age v_asked v_homes v_marks v_had v_allergic v_deaths) (xWV ad) (some (.int res))) 0 0 (nA (xWV ad)) := by
  refine n_ofW (own := RX0) (by decide) rfl (Nat.le_of_ble_eq_true rfl) ?_
  intro p e s m args below meth c ls C hml hP hS hl hr hlocks
  have hl : lv_has ls 2 [(0, .ref (ad 0)), (1, .int p1)] := hl
  obtain ⟨Q, hQ⟩ : ∃ Q, Q = MQ below (nQc G (xW G.2 ad v_latestFault v_died v_leastWeight v_noticedBy v_noticed v_orderDied v_orderLeast v_imaged v_shelves v_refusals v_ran v_bodies v_tweight v_tfright v_tage v_tasked v_told v_bestRow v_weight_a1 v_fright_a1 v_age_a1 v_asked_a1 v_weight_a2 v_fright_a2 v_age_a2 v_asked_a2 v_weight_a3 v_fright_a3 v_age_a3 v_asked_a3 v_weight_a4 v_fright_a4 v_age_a4 v_asked_a4 v_many v_pets v_last v_seed v_weight v_fright v_age v_asked v_homes v_marks v_had v_allergic v_deaths) (xWV ad) (some (.int res))) args s 0 0 (nA (xWV ad)) := ⟨_, rfl⟩
  rw [← hQ]
  have hret : ∀ (pc : Nat) (ls : Array Slot) (H : Heap) (locs : List Loc), decode cX0_asked pc = .ok (.ireturn, 1) → va_P G.1 vwCl (xW G.2 ad v_latestFault v_died v_leastWeight v_noticedBy v_noticed v_orderDied v_orderLeast v_imaged v_shelves v_refusals v_ran v_bodies v_tweight v_tfright v_tage v_tasked v_told v_bestRow v_weight_a1 v_fright_a1 v_age_a1 v_asked_a1 v_weight_a2 v_fright_a2 v_age_a2 v_asked_a2 v_weight_a3 v_fright_a3 v_age_a3 v_asked_a3 v_weight_a4 v_fright_a4 v_age_a4 v_asked_a4 v_many v_pets v_last v_seed v_weight v_fright v_age v_asked v_homes v_marks v_had v_allergic v_deaths) H → va_S (nA (xWV ad)) s.heap H locs → W p l e ({ frames := 0, cells := 0, slots := 0, locals := 0 } : Room) s m args below meth c H locs 0 0 Q (F0 m pc ls [(.int res)]) := by
    intro pc ls H locs hd hP hS
    rw [hQ]
    exact n_iret C hr hlocks hd hP hS
  clear hQ
  obtain ⟨H, hH⟩ : ∃ H, H = s.heap := ⟨_, rfl⟩
  obtain ⟨locs, hlo⟩ : ∃ locs : List Loc, locs = [] := ⟨_, rfl⟩
  have hP : va_P G.1 vwCl (xW G.2 ad v_latestFault v_died v_leastWeight v_noticedBy v_noticed v_orderDied v_orderLeast v_imaged v_shelves v_refusals v_ran v_bodies v_tweight v_tfright v_tage v_tasked v_told v_bestRow v_weight_a1 v_fright_a1 v_age_a1 v_asked_a1 v_weight_a2 v_fright_a2 v_age_a2 v_asked_a2 v_weight_a3 v_fright_a3 v_age_a3 v_asked_a3 v_weight_a4 v_fright_a4 v_age_a4 v_asked_a4 v_many v_pets v_last v_seed v_weight v_fright v_age v_asked v_homes v_marks v_had v_allergic v_deaths) H := by rw [hH]; exact hP
  have hS : va_S (nA (xWV ad)) s.heap H locs := by rw [hH, hlo]; exact hS
  suffices hZ : W p l e ({ frames := 0, cells := 0, slots := 0, locals := 0 } : Room) s m args below meth c H locs 0 0 Q (F0 m 0 ls []) by rw [hH, hlo] at hZ; exact hZ
  clear hH hlo
  unfold sC_HW_asked at hE
  refine lv_iload_n C.1 C.2.1 dX0_asked_0 rfl (lv_at hl 1 rfl) ?_
  by_cases c1 : p1 = 0
  · have hE := it_t c1 hE
    refine lv_tableIn (tgt := 28) C.1 C.2.1 dX0_asked_1 (by rw [c1]; decide) (by rw [c1]; decide) (by rw [c1]; rfl) (by decide) ?_
    refine lv_aload_n C.1 C.2.1 dX0_asked_28 rfl (lv_at hl 0 rfl) ?_
    refine xWg_0_6 q244 C hP dX0_asked_29 ?_
    refine xWg_18_4 q191 C hP dX0_asked_32 ?_
    refine xWg_19_0 q149 C hP dX0_asked_35 ?_
    obtain rfl := Option.some.inj hE
    exact hret _ _ _ _ dX0_asked_38 hP hS
  have hE := it_f c1 hE
  by_cases c2 : p1 = 1
  · have hE := it_t c2 hE
    refine lv_tableIn (tgt := 39) C.1 C.2.1 dX0_asked_1 (by rw [c2]; decide) (by rw [c2]; decide) (by rw [c2]; rfl) (by decide) ?_
    refine lv_aload_n C.1 C.2.1 dX0_asked_39 rfl (lv_at hl 0 rfl) ?_
    refine xWg_0_6 q244 C hP dX0_asked_40 ?_
    refine xWg_18_4 q191 C hP dX0_asked_43 ?_
    refine xWg_19_1 q154 C hP dX0_asked_46 ?_
    obtain rfl := Option.some.inj hE
    exact hret _ _ _ _ dX0_asked_49 hP hS
  have hE := it_f c2 hE
  by_cases c3 : p1 = 2
  · have hE := it_t c3 hE
    refine lv_tableIn (tgt := 50) C.1 C.2.1 dX0_asked_1 (by rw [c3]; decide) (by rw [c3]; decide) (by rw [c3]; rfl) (by decide) ?_
    refine lv_aload_n C.1 C.2.1 dX0_asked_50 rfl (lv_at hl 0 rfl) ?_
    refine xWg_0_6 q244 C hP dX0_asked_51 ?_
    refine xWg_18_4 q191 C hP dX0_asked_54 ?_
    refine xWg_19_2 q157 C hP dX0_asked_57 ?_
    obtain rfl := Option.some.inj hE
    exact hret _ _ _ _ dX0_asked_60 hP hS
  have hE := it_f c3 hE
  refine lv_tableOut (tgt := 61) C.1 C.2.1 dX0_asked_1 (ts_e (ts_s (ts_s (ts_s (ts_0 0) c1 rfl rfl) c2 rfl rfl) c3 rfl rfl) rfl) (by decide) ?_
  refine lv_aload_n C.1 C.2.1 dX0_asked_61 rfl (lv_at hl 0 rfl) ?_
  refine xWg_0_6 q244 C hP dX0_asked_62 ?_
  refine xWg_18_4 q191 C hP dX0_asked_65 ?_
  refine xWg_19_3 q160 C hP dX0_asked_68 ?_
  refine lv_iload_n C.1 C.2.1 dX0_asked_71 rfl (lv_at hl 1 rfl) ?_
  refine lv_iconst (v := 3) C.1 C.2.1 dX0_asked_72 (by decide) ?_
  refine lv_isub C.1 C.2.1 dX0_asked_73 ?_
  obtain ⟨g4, hE⟩ := it_g hE
  refine xWl_20 (v := (v_asked ((p1 - 3)).toNatClampNeg)) C hP (gi_in g4) rfl dX0_asked_74 ?_
  obtain rfl := Option.some.inj hE
  exact hret _ _ _ _ dX0_asked_75 hP hS
def sC_HW_changes (v_told : Nat → Int32) (p1 : Int32) (p2 : Int32) : Option ((Nat → Int32)) :=
  if gi p1 40 then
  if gi p2 40 then
  if gi p1 40 then
  if gi p2 40 then
  some (upd (upd v_told (p1).toNatClampNeg (v_told (p2).toNatClampNeg)) (p2).toNatClampNeg (v_told (p1).toNatClampNeg))
  else none
  else none
  else none
  else none
set_option maxHeartbeats 4000000 in
theorem metC_HW_changes (l : Launch) (G : kG) (ad : Nat → Nat) (pl : va_W) (v_latestFault : Int32) (v_died : Int32) (v_leastWeight : Int32) (v_noticedBy : Int32) (v_noticed : Int32) (v_orderDied : Int32) (v_orderLeast : Int32) (v_imaged : Option Nat) (v_shelves : Nat → Option Nat) (v_refusals : Nat → Int32) (v_ran : Int32) (v_bodies : Nat → Int32) (v_tweight : Int32) (v_tfright : Int32) (v_tage : Int32) (v_tasked : Nat → Int32) (v_told : Nat → Int32) (v_bestRow : Nat → Int32) (v_weight_a1 : Int32) (v_fright_a1 : Int32) (v_age_a1 : Int32) (v_asked_a1 : Nat → Int32) (v_weight_a2 : Int32) (v_fright_a2 : Int32) (v_age_a2 : Int32) (v_asked_a2 : Nat → Int32) (v_weight_a3 : Int32) (v_fright_a3 : Int32) (v_age_a3 : Int32) (v_asked_a3 : Nat → Int32) (v_weight_a4 : Int32) (v_fright_a4 : Int32) (v_age_a4 : Int32) (v_asked_a4 : Nat → Int32) (v_many : Int32) (v_pets : Int32) (v_last : Int32) (v_seed : Int32) (v_weight : Int32) (v_fright : Int32) (v_age : Int32) (v_asked : Nat → Int32) (v_homes : Nat → Option Nat) (v_marks : Nat → Int32) (v_had : Nat → Int32) (v_allergic : Nat → Int32) (v_deaths : Nat → Int32) (p1 : Int32) (p2 : Int32) (res : (Nat → Int32)) (hE : sC_HW_changes v_told p1 p2 = some res) : Met l yX0_changes (ws_ yX0_changes cX0_changes 4 none) ({ frames := 0, cells := 0, slots := 0, locals := 0 } : Room) (nPc G (xW G.2 ad v_latestFault v_died v_leastWeight v_noticedBy v_noticed v_orderDied v_orderLeast v_imaged v_shelves v_refusals v_ran v_bodies v_tweight v_tfright v_tage v_tasked v_told v_bestRow v_weight_a1 v_fright_a1 v_age_a1 v_asked_a1 v_weight_a2 v_fright_a2 v_age_a2 v_asked_a2 v_weight_a3 v_fright_a3 v_age_a3 v_asked_a3 v_weight_a4 v_fright_a4 v_age_a4 v_asked_a4 v_many v_pets v_last v_seed v_weight v_fright v_age v_asked v_homes v_marks v_had v_allergic v_deaths) pl (xWV ad) [.ref (ad 0), .int p1, .int p2]) (nQc G (xW G.2 ad v_latestFault v_died v_leastWeight v_noticedBy v_noticed v_orderDied v_orderLeast v_imaged v_shelves v_refusals v_ran v_bodies v_tweight v_tfright v_tage v_tasked res v_bestRow v_weight_a1 v_fright_a1 v_age_a1 v_asked_a1 v_weight_a2 v_fright_a2 v_age_a2 v_asked_a2 v_weight_a3 v_fright_a3 v_age_a3 v_asked_a3 v_weight_a4 v_fright_a4 v_age_a4 v_asked_a4 v_many v_pets v_last v_seed v_weight v_fright v_age v_asked v_homes v_marks v_had v_allergic v_deaths) (xWV ad) none) 0 0 (nA (xWV ad)) := by
  refine n_ofW (own := RX0) (by decide) rfl (Nat.le_of_ble_eq_true rfl) ?_
  intro p e s m args below meth c ls C hml hP hS hl hr hlocks
  have hl : lv_has ls 4 [(0, .ref (ad 0)), (1, .int p1), (2, .int p2)] := hl
  obtain ⟨Q, hQ⟩ : ∃ Q, Q = MQ below (nQc G (xW G.2 ad v_latestFault v_died v_leastWeight v_noticedBy v_noticed v_orderDied v_orderLeast v_imaged v_shelves v_refusals v_ran v_bodies v_tweight v_tfright v_tage v_tasked res v_bestRow v_weight_a1 v_fright_a1 v_age_a1 v_asked_a1 v_weight_a2 v_fright_a2 v_age_a2 v_asked_a2 v_weight_a3 v_fright_a3 v_age_a3 v_asked_a3 v_weight_a4 v_fright_a4 v_age_a4 v_asked_a4 v_many v_pets v_last v_seed v_weight v_fright v_age v_asked v_homes v_marks v_had v_allergic v_deaths) (xWV ad) none) args s 0 0 (nA (xWV ad)) := ⟨_, rfl⟩
  rw [← hQ]
  have hret : ∀ (pc : Nat) (ls : Array Slot) (H : Heap) (locs : List Loc), decode cX0_changes pc = .ok (.return_, 1) → va_P G.1 vwCl (xW G.2 ad v_latestFault v_died v_leastWeight v_noticedBy v_noticed v_orderDied v_orderLeast v_imaged v_shelves v_refusals v_ran v_bodies v_tweight v_tfright v_tage v_tasked res v_bestRow v_weight_a1 v_fright_a1 v_age_a1 v_asked_a1 v_weight_a2 v_fright_a2 v_age_a2 v_asked_a2 v_weight_a3 v_fright_a3 v_age_a3 v_asked_a3 v_weight_a4 v_fright_a4 v_age_a4 v_asked_a4 v_many v_pets v_last v_seed v_weight v_fright v_age v_asked v_homes v_marks v_had v_allergic v_deaths) H → va_S (nA (xWV ad)) s.heap H locs → W p l e ({ frames := 0, cells := 0, slots := 0, locals := 0 } : Room) s m args below meth c H locs 0 0 Q (F0 m pc ls []) := by
    intro pc ls H locs hd hP hS
    rw [hQ]
    exact n_vret C hr hlocks hd hP hS
  clear hQ
  obtain ⟨H, hH⟩ : ∃ H, H = s.heap := ⟨_, rfl⟩
  obtain ⟨locs, hlo⟩ : ∃ locs : List Loc, locs = [] := ⟨_, rfl⟩
  have hP : va_P G.1 vwCl (xW G.2 ad v_latestFault v_died v_leastWeight v_noticedBy v_noticed v_orderDied v_orderLeast v_imaged v_shelves v_refusals v_ran v_bodies v_tweight v_tfright v_tage v_tasked v_told v_bestRow v_weight_a1 v_fright_a1 v_age_a1 v_asked_a1 v_weight_a2 v_fright_a2 v_age_a2 v_asked_a2 v_weight_a3 v_fright_a3 v_age_a3 v_asked_a3 v_weight_a4 v_fright_a4 v_age_a4 v_asked_a4 v_many v_pets v_last v_seed v_weight v_fright v_age v_asked v_homes v_marks v_had v_allergic v_deaths) H := by rw [hH]; exact hP
  have hS : va_S (nA (xWV ad)) s.heap H locs := by rw [hH, hlo]; exact hS
  suffices hZ : W p l e ({ frames := 0, cells := 0, slots := 0, locals := 0 } : Room) s m args below meth c H locs 0 0 Q (F0 m 0 ls []) by rw [hH, hlo] at hZ; exact hZ
  clear hH hlo
  unfold sC_HW_changes at hE
  refine lv_aload_n C.1 C.2.1 dX0_changes_0 rfl (lv_at hl 0 rfl) ?_
  refine xWg_0_4 q242 C hP dX0_changes_1 ?_
  refine lv_iload_n C.1 C.2.1 dX0_changes_4 rfl (lv_at hl 1 rfl) ?_
  obtain ⟨g1, hE⟩ := it_g hE
  refine xWl_7 (v := (v_told (p1).toNatClampNeg)) C hP (gi_in g1) rfl dX0_changes_5 ?_
  refine lv_istore_n (lv' := [(3, .int (v_told (p1).toNatClampNeg)), (0, .ref (ad 0)), (1, .int p1), (2, .int p2)]) C.1 C.2.1 dX0_changes_6 rfl hl (by decide) rfl (fun ls hl => ?_)
  refine lv_aload_n C.1 C.2.1 dX0_changes_7 rfl (lv_at hl 1 rfl) ?_
  refine xWg_0_4 q242 C hP dX0_changes_8 ?_
  refine lv_iload_n C.1 C.2.1 dX0_changes_11 rfl (lv_at hl 2 rfl) ?_
  refine lv_aload_n C.1 C.2.1 dX0_changes_12 rfl (lv_at hl 1 rfl) ?_
  refine xWg_0_4 q242 C hP dX0_changes_13 ?_
  refine lv_iload_n C.1 C.2.1 dX0_changes_16 rfl (lv_at hl 3 rfl) ?_
  obtain ⟨g2, hE⟩ := it_g hE
  refine xWl_7 (v := (v_told (p2).toNatClampNeg)) C hP (gi_in g2) rfl dX0_changes_17 ?_
  obtain ⟨g3, hE⟩ := it_g hE
  refine xWs_7 C hP hS (gi_in g3) dX0_changes_18 (fun H locs hP hS => ?_)
  refine lv_aload_n C.1 C.2.1 dX0_changes_19 rfl (lv_at hl 1 rfl) ?_
  refine xWg_0_4 q242 C hP dX0_changes_20 ?_
  refine lv_iload_n C.1 C.2.1 dX0_changes_23 rfl (lv_at hl 3 rfl) ?_
  refine lv_iload_n C.1 C.2.1 dX0_changes_24 rfl (lv_at hl 0 rfl) ?_
  obtain ⟨g4, hE⟩ := it_g hE
  refine xWs_7 C hP hS (gi_in g4) dX0_changes_25 (fun H locs hP hS => ?_)
  obtain rfl := Option.some.inj hE
  exact hret _ _ _ _ dX0_changes_26 hP hS
def sC_HW_seed (v_seed : Int32) (p1 : Int32) : Option (Int32 × Int32) :=
  some (v_seed, p1)
set_option maxHeartbeats 4000000 in
theorem metC_HW_seed (l : Launch) (G : kG) (ad : Nat → Nat) (pl : va_W) (v_latestFault : Int32) (v_died : Int32) (v_leastWeight : Int32) (v_noticedBy : Int32) (v_noticed : Int32) (v_orderDied : Int32) (v_orderLeast : Int32) (v_imaged : Option Nat) (v_shelves : Nat → Option Nat) (v_refusals : Nat → Int32) (v_ran : Int32) (v_bodies : Nat → Int32) (v_tweight : Int32) (v_tfright : Int32) (v_tage : Int32) (v_tasked : Nat → Int32) (v_told : Nat → Int32) (v_bestRow : Nat → Int32) (v_weight_a1 : Int32) (v_fright_a1 : Int32) (v_age_a1 : Int32) (v_asked_a1 : Nat → Int32) (v_weight_a2 : Int32) (v_fright_a2 : Int32) (v_age_a2 : Int32) (v_asked_a2 : Nat → Int32) (v_weight_a3 : Int32) (v_fright_a3 : Int32) (v_age_a3 : Int32) (v_asked_a3 : Nat → Int32) (v_weight_a4 : Int32) (v_fright_a4 : Int32) (v_age_a4 : Int32) (v_asked_a4 : Nat → Int32) (v_many : Int32) (v_pets : Int32) (v_last : Int32) (v_seed : Int32) (v_weight : Int32) (v_fright : Int32) (v_age : Int32) (v_asked : Nat → Int32) (v_homes : Nat → Option Nat) (v_marks : Nat → Int32) (v_had : Nat → Int32) (v_allergic : Nat → Int32) (v_deaths : Nat → Int32) (p1 : Int32) (res : Int32 × Int32) (hE : sC_HW_seed v_seed p1 = some res) : Met l yX0_seed (ws_ yX0_seed cX0_seed 3 (some .int)) ({ frames := 0, cells := 0, slots := 0, locals := 0 } : Room) (nPc G (xW G.2 ad v_latestFault v_died v_leastWeight v_noticedBy v_noticed v_orderDied v_orderLeast v_imaged v_shelves v_refusals v_ran v_bodies v_tweight v_tfright v_tage v_tasked v_told v_bestRow v_weight_a1 v_fright_a1 v_age_a1 v_asked_a1 v_weight_a2 v_fright_a2 v_age_a2 v_asked_a2 v_weight_a3 v_fright_a3 v_age_a3 v_asked_a3 v_weight_a4 v_fright_a4 v_age_a4 v_asked_a4 v_many v_pets v_last v_seed v_weight v_fright v_age v_asked v_homes v_marks v_had v_allergic v_deaths) pl (xWV ad) [.ref (ad 0), .int p1]) (nQc G (xW G.2 ad v_latestFault v_died v_leastWeight v_noticedBy v_noticed v_orderDied v_orderLeast v_imaged v_shelves v_refusals v_ran v_bodies v_tweight v_tfright v_tage v_tasked v_told v_bestRow v_weight_a1 v_fright_a1 v_age_a1 v_asked_a1 v_weight_a2 v_fright_a2 v_age_a2 v_asked_a2 v_weight_a3 v_fright_a3 v_age_a3 v_asked_a3 v_weight_a4 v_fright_a4 v_age_a4 v_asked_a4 v_many v_pets v_last res.2 v_weight v_fright v_age v_asked v_homes v_marks v_had v_allergic v_deaths) (xWV ad) (some (.int res.1))) 0 0 (nA (xWV ad)) := by
  refine n_ofW (own := RX0) (by decide) rfl (Nat.le_of_ble_eq_true rfl) ?_
  intro p e s m args below meth c ls C hml hP hS hl hr hlocks
  have hl : lv_has ls 3 [(0, .ref (ad 0)), (1, .int p1)] := hl
  obtain ⟨Q, hQ⟩ : ∃ Q, Q = MQ below (nQc G (xW G.2 ad v_latestFault v_died v_leastWeight v_noticedBy v_noticed v_orderDied v_orderLeast v_imaged v_shelves v_refusals v_ran v_bodies v_tweight v_tfright v_tage v_tasked v_told v_bestRow v_weight_a1 v_fright_a1 v_age_a1 v_asked_a1 v_weight_a2 v_fright_a2 v_age_a2 v_asked_a2 v_weight_a3 v_fright_a3 v_age_a3 v_asked_a3 v_weight_a4 v_fright_a4 v_age_a4 v_asked_a4 v_many v_pets v_last res.2 v_weight v_fright v_age v_asked v_homes v_marks v_had v_allergic v_deaths) (xWV ad) (some (.int res.1))) args s 0 0 (nA (xWV ad)) := ⟨_, rfl⟩
  rw [← hQ]
  have hret : ∀ (pc : Nat) (ls : Array Slot) (H : Heap) (locs : List Loc), decode cX0_seed pc = .ok (.ireturn, 1) → va_P G.1 vwCl (xW G.2 ad v_latestFault v_died v_leastWeight v_noticedBy v_noticed v_orderDied v_orderLeast v_imaged v_shelves v_refusals v_ran v_bodies v_tweight v_tfright v_tage v_tasked v_told v_bestRow v_weight_a1 v_fright_a1 v_age_a1 v_asked_a1 v_weight_a2 v_fright_a2 v_age_a2 v_asked_a2 v_weight_a3 v_fright_a3 v_age_a3 v_asked_a3 v_weight_a4 v_fright_a4 v_age_a4 v_asked_a4 v_many v_pets v_last res.2 v_weight v_fright v_age v_asked v_homes v_marks v_had v_allergic v_deaths) H → va_S (nA (xWV ad)) s.heap H locs → W p l e ({ frames := 0, cells := 0, slots := 0, locals := 0 } : Room) s m args below meth c H locs 0 0 Q (F0 m pc ls [(.int res.1)]) := by
    intro pc ls H locs hd hP hS
    rw [hQ]
    exact n_iret C hr hlocks hd hP hS
  clear hQ
  obtain ⟨H, hH⟩ : ∃ H, H = s.heap := ⟨_, rfl⟩
  obtain ⟨locs, hlo⟩ : ∃ locs : List Loc, locs = [] := ⟨_, rfl⟩
  have hP : va_P G.1 vwCl (xW G.2 ad v_latestFault v_died v_leastWeight v_noticedBy v_noticed v_orderDied v_orderLeast v_imaged v_shelves v_refusals v_ran v_bodies v_tweight v_tfright v_tage v_tasked v_told v_bestRow v_weight_a1 v_fright_a1 v_age_a1 v_asked_a1 v_weight_a2 v_fright_a2 v_age_a2 v_asked_a2 v_weight_a3 v_fright_a3 v_age_a3 v_asked_a3 v_weight_a4 v_fright_a4 v_age_a4 v_asked_a4 v_many v_pets v_last v_seed v_weight v_fright v_age v_asked v_homes v_marks v_had v_allergic v_deaths) H := by rw [hH]; exact hP
  have hS : va_S (nA (xWV ad)) s.heap H locs := by rw [hH, hlo]; exact hS
  suffices hZ : W p l e ({ frames := 0, cells := 0, slots := 0, locals := 0 } : Room) s m args below meth c H locs 0 0 Q (F0 m 0 ls []) by rw [hH, hlo] at hZ; exact hZ
  clear hH hlo
  unfold sC_HW_seed at hE
  refine lv_aload_n C.1 C.2.1 dX0_seed_0 rfl (lv_at hl 0 rfl) ?_
  refine xWg_0_6 q244 C hP dX0_seed_1 ?_
  refine xWg_18_3 q188 C hP dX0_seed_4 ?_
  refine lv_istore_n (lv' := [(2, .int v_seed), (0, .ref (ad 0)), (1, .int p1)]) C.1 C.2.1 dX0_seed_7 rfl hl (by decide) rfl (fun ls hl => ?_)
  refine lv_aload_n C.1 C.2.1 dX0_seed_8 rfl (lv_at hl 1 rfl) ?_
  refine xWg_0_6 q244 C hP dX0_seed_9 ?_
  refine lv_iload_n C.1 C.2.1 dX0_seed_12 rfl (lv_at hl 2 rfl) ?_
  refine xWp_18_3 q188 C hP hS dX0_seed_13 (fun H locs hP hS => ?_)
  refine lv_iload_n C.1 C.2.1 dX0_seed_16 rfl (lv_at hl 0 rfl) ?_
  obtain rfl := Option.some.inj hE
  exact hret _ _ _ _ dX0_seed_17 hP hS
def sC_HW_fault (v_latestFault : Int32) : Option (Int32) :=
  some v_latestFault
set_option maxHeartbeats 4000000 in
theorem metC_HW_fault (l : Launch) (G : kG) (ad : Nat → Nat) (pl : va_W) (v_latestFault : Int32) (v_died : Int32) (v_leastWeight : Int32) (v_noticedBy : Int32) (v_noticed : Int32) (v_orderDied : Int32) (v_orderLeast : Int32) (v_imaged : Option Nat) (v_shelves : Nat → Option Nat) (v_refusals : Nat → Int32) (v_ran : Int32) (v_bodies : Nat → Int32) (v_tweight : Int32) (v_tfright : Int32) (v_tage : Int32) (v_tasked : Nat → Int32) (v_told : Nat → Int32) (v_bestRow : Nat → Int32) (v_weight_a1 : Int32) (v_fright_a1 : Int32) (v_age_a1 : Int32) (v_asked_a1 : Nat → Int32) (v_weight_a2 : Int32) (v_fright_a2 : Int32) (v_age_a2 : Int32) (v_asked_a2 : Nat → Int32) (v_weight_a3 : Int32) (v_fright_a3 : Int32) (v_age_a3 : Int32) (v_asked_a3 : Nat → Int32) (v_weight_a4 : Int32) (v_fright_a4 : Int32) (v_age_a4 : Int32) (v_asked_a4 : Nat → Int32) (v_many : Int32) (v_pets : Int32) (v_last : Int32) (v_seed : Int32) (v_weight : Int32) (v_fright : Int32) (v_age : Int32) (v_asked : Nat → Int32) (v_homes : Nat → Option Nat) (v_marks : Nat → Int32) (v_had : Nat → Int32) (v_allergic : Nat → Int32) (v_deaths : Nat → Int32)  (res : Int32) (hE : sC_HW_fault v_latestFault = some res) : Met l yX0_fault (ws_ yX0_fault cX0_fault 1 (some .int)) ({ frames := 0, cells := 0, slots := 0, locals := 0 } : Room) (nPc G (xW G.2 ad v_latestFault v_died v_leastWeight v_noticedBy v_noticed v_orderDied v_orderLeast v_imaged v_shelves v_refusals v_ran v_bodies v_tweight v_tfright v_tage v_tasked v_told v_bestRow v_weight_a1 v_fright_a1 v_age_a1 v_asked_a1 v_weight_a2 v_fright_a2 v_age_a2 v_asked_a2 v_weight_a3 v_fright_a3 v_age_a3 v_asked_a3 v_weight_a4 v_fright_a4 v_age_a4 v_asked_a4 v_many v_pets v_last v_seed v_weight v_fright v_age v_asked v_homes v_marks v_had v_allergic v_deaths) pl (xWV ad) [.ref (ad 0)]) (nQc G (xW G.2 ad v_latestFault v_died v_leastWeight v_noticedBy v_noticed v_orderDied v_orderLeast v_imaged v_shelves v_refusals v_ran v_bodies v_tweight v_tfright v_tage v_tasked v_told v_bestRow v_weight_a1 v_fright_a1 v_age_a1 v_asked_a1 v_weight_a2 v_fright_a2 v_age_a2 v_asked_a2 v_weight_a3 v_fright_a3 v_age_a3 v_asked_a3 v_weight_a4 v_fright_a4 v_age_a4 v_asked_a4 v_many v_pets v_last v_seed v_weight v_fright v_age v_asked v_homes v_marks v_had v_allergic v_deaths) (xWV ad) (some (.int res))) 0 0 (nA (xWV ad)) := by
  refine n_ofW (own := RX0) (by decide) rfl (Nat.le_of_ble_eq_true rfl) ?_
  intro p e s m args below meth c ls C hml hP hS hl hr hlocks
  have hl : lv_has ls 1 [(0, .ref (ad 0))] := hl
  obtain ⟨Q, hQ⟩ : ∃ Q, Q = MQ below (nQc G (xW G.2 ad v_latestFault v_died v_leastWeight v_noticedBy v_noticed v_orderDied v_orderLeast v_imaged v_shelves v_refusals v_ran v_bodies v_tweight v_tfright v_tage v_tasked v_told v_bestRow v_weight_a1 v_fright_a1 v_age_a1 v_asked_a1 v_weight_a2 v_fright_a2 v_age_a2 v_asked_a2 v_weight_a3 v_fright_a3 v_age_a3 v_asked_a3 v_weight_a4 v_fright_a4 v_age_a4 v_asked_a4 v_many v_pets v_last v_seed v_weight v_fright v_age v_asked v_homes v_marks v_had v_allergic v_deaths) (xWV ad) (some (.int res))) args s 0 0 (nA (xWV ad)) := ⟨_, rfl⟩
  rw [← hQ]
  have hret : ∀ (pc : Nat) (ls : Array Slot) (H : Heap) (locs : List Loc), decode cX0_fault pc = .ok (.ireturn, 1) → va_P G.1 vwCl (xW G.2 ad v_latestFault v_died v_leastWeight v_noticedBy v_noticed v_orderDied v_orderLeast v_imaged v_shelves v_refusals v_ran v_bodies v_tweight v_tfright v_tage v_tasked v_told v_bestRow v_weight_a1 v_fright_a1 v_age_a1 v_asked_a1 v_weight_a2 v_fright_a2 v_age_a2 v_asked_a2 v_weight_a3 v_fright_a3 v_age_a3 v_asked_a3 v_weight_a4 v_fright_a4 v_age_a4 v_asked_a4 v_many v_pets v_last v_seed v_weight v_fright v_age v_asked v_homes v_marks v_had v_allergic v_deaths) H → va_S (nA (xWV ad)) s.heap H locs → W p l e ({ frames := 0, cells := 0, slots := 0, locals := 0 } : Room) s m args below meth c H locs 0 0 Q (F0 m pc ls [(.int res)]) := by
    intro pc ls H locs hd hP hS
    rw [hQ]
    exact n_iret C hr hlocks hd hP hS
  clear hQ
  obtain ⟨H, hH⟩ : ∃ H, H = s.heap := ⟨_, rfl⟩
  obtain ⟨locs, hlo⟩ : ∃ locs : List Loc, locs = [] := ⟨_, rfl⟩
  have hP : va_P G.1 vwCl (xW G.2 ad v_latestFault v_died v_leastWeight v_noticedBy v_noticed v_orderDied v_orderLeast v_imaged v_shelves v_refusals v_ran v_bodies v_tweight v_tfright v_tage v_tasked v_told v_bestRow v_weight_a1 v_fright_a1 v_age_a1 v_asked_a1 v_weight_a2 v_fright_a2 v_age_a2 v_asked_a2 v_weight_a3 v_fright_a3 v_age_a3 v_asked_a3 v_weight_a4 v_fright_a4 v_age_a4 v_asked_a4 v_many v_pets v_last v_seed v_weight v_fright v_age v_asked v_homes v_marks v_had v_allergic v_deaths) H := by rw [hH]; exact hP
  have hS : va_S (nA (xWV ad)) s.heap H locs := by rw [hH, hlo]; exact hS
  suffices hZ : W p l e ({ frames := 0, cells := 0, slots := 0, locals := 0 } : Room) s m args below meth c H locs 0 0 Q (F0 m 0 ls []) by rw [hH, hlo] at hZ; exact hZ
  clear hH hlo
  unfold sC_HW_fault at hE
  refine lv_aload_n C.1 C.2.1 dX0_fault_0 rfl (lv_at hl 0 rfl) ?_
  refine xWg_0_8 q246 C hP dX0_fault_1 ?_
  obtain rfl := Option.some.inj hE
  exact hret _ _ _ _ dX0_fault_4 hP hS
def sC_HW_trace (v_ran : Int32) (v_bodies : Nat → Int32) (p1 : Int32) : Option (Int32) :=
  (sC_HW_in ((p1 : Int32).toInt64) 0 ((((imin v_ran 20) - 1) : Int32).toInt64)).bind fun r1 =>
  if r1 = 0 then
    some (-1)
  else
    if gi p1 20 then
    some (v_bodies (p1).toNatClampNeg)
    else none
set_option maxHeartbeats 4000000 in
theorem metC_HW_trace (l : Launch) (G : kG) (ad : Nat → Nat) (pl : va_W) (v_latestFault : Int32) (v_died : Int32) (v_leastWeight : Int32) (v_noticedBy : Int32) (v_noticed : Int32) (v_orderDied : Int32) (v_orderLeast : Int32) (v_imaged : Option Nat) (v_shelves : Nat → Option Nat) (v_refusals : Nat → Int32) (v_ran : Int32) (v_bodies : Nat → Int32) (v_tweight : Int32) (v_tfright : Int32) (v_tage : Int32) (v_tasked : Nat → Int32) (v_told : Nat → Int32) (v_bestRow : Nat → Int32) (v_weight_a1 : Int32) (v_fright_a1 : Int32) (v_age_a1 : Int32) (v_asked_a1 : Nat → Int32) (v_weight_a2 : Int32) (v_fright_a2 : Int32) (v_age_a2 : Int32) (v_asked_a2 : Nat → Int32) (v_weight_a3 : Int32) (v_fright_a3 : Int32) (v_age_a3 : Int32) (v_asked_a3 : Nat → Int32) (v_weight_a4 : Int32) (v_fright_a4 : Int32) (v_age_a4 : Int32) (v_asked_a4 : Nat → Int32) (v_many : Int32) (v_pets : Int32) (v_last : Int32) (v_seed : Int32) (v_weight : Int32) (v_fright : Int32) (v_age : Int32) (v_asked : Nat → Int32) (v_homes : Nat → Option Nat) (v_marks : Nat → Int32) (v_had : Nat → Int32) (v_allergic : Nat → Int32) (v_deaths : Nat → Int32) (p1 : Int32) (res : Int32) (hE : sC_HW_trace v_ran v_bodies p1 = some res) : Met l yX0_trace (ws_ yX0_trace cX0_trace 2 (some .int)) ({ frames := 1, cells := 0, slots := 0, locals := 25 } : Room) (nPc G (xW G.2 ad v_latestFault v_died v_leastWeight v_noticedBy v_noticed v_orderDied v_orderLeast v_imaged v_shelves v_refusals v_ran v_bodies v_tweight v_tfright v_tage v_tasked v_told v_bestRow v_weight_a1 v_fright_a1 v_age_a1 v_asked_a1 v_weight_a2 v_fright_a2 v_age_a2 v_asked_a2 v_weight_a3 v_fright_a3 v_age_a3 v_asked_a3 v_weight_a4 v_fright_a4 v_age_a4 v_asked_a4 v_many v_pets v_last v_seed v_weight v_fright v_age v_asked v_homes v_marks v_had v_allergic v_deaths) pl (xWV ad) [.ref (ad 0), .int p1]) (nQc G (xW G.2 ad v_latestFault v_died v_leastWeight v_noticedBy v_noticed v_orderDied v_orderLeast v_imaged v_shelves v_refusals v_ran v_bodies v_tweight v_tfright v_tage v_tasked v_told v_bestRow v_weight_a1 v_fright_a1 v_age_a1 v_asked_a1 v_weight_a2 v_fright_a2 v_age_a2 v_asked_a2 v_weight_a3 v_fright_a3 v_age_a3 v_asked_a3 v_weight_a4 v_fright_a4 v_age_a4 v_asked_a4 v_many v_pets v_last v_seed v_weight v_fright v_age v_asked v_homes v_marks v_had v_allergic v_deaths) (xWV ad) (some (.int res))) 0 0 (nA (xWV ad)) := by
  refine n_ofW (own := RX0) (by decide) rfl (Nat.le_of_ble_eq_true rfl) ?_
  intro p e s m args below meth c ls C hml hP hS hl hr hlocks
  have hl : lv_has ls 2 [(0, .ref (ad 0)), (1, .int p1)] := hl
  obtain ⟨Q, hQ⟩ : ∃ Q, Q = MQ below (nQc G (xW G.2 ad v_latestFault v_died v_leastWeight v_noticedBy v_noticed v_orderDied v_orderLeast v_imaged v_shelves v_refusals v_ran v_bodies v_tweight v_tfright v_tage v_tasked v_told v_bestRow v_weight_a1 v_fright_a1 v_age_a1 v_asked_a1 v_weight_a2 v_fright_a2 v_age_a2 v_asked_a2 v_weight_a3 v_fright_a3 v_age_a3 v_asked_a3 v_weight_a4 v_fright_a4 v_age_a4 v_asked_a4 v_many v_pets v_last v_seed v_weight v_fright v_age v_asked v_homes v_marks v_had v_allergic v_deaths) (xWV ad) (some (.int res))) args s 0 0 (nA (xWV ad)) := ⟨_, rfl⟩
  rw [← hQ]
  have hret : ∀ (pc : Nat) (ls : Array Slot) (H : Heap) (locs : List Loc), decode cX0_trace pc = .ok (.ireturn, 1) → va_P G.1 vwCl (xW G.2 ad v_latestFault v_died v_leastWeight v_noticedBy v_noticed v_orderDied v_orderLeast v_imaged v_shelves v_refusals v_ran v_bodies v_tweight v_tfright v_tage v_tasked v_told v_bestRow v_weight_a1 v_fright_a1 v_age_a1 v_asked_a1 v_weight_a2 v_fright_a2 v_age_a2 v_asked_a2 v_weight_a3 v_fright_a3 v_age_a3 v_asked_a3 v_weight_a4 v_fright_a4 v_age_a4 v_asked_a4 v_many v_pets v_last v_seed v_weight v_fright v_age v_asked v_homes v_marks v_had v_allergic v_deaths) H → va_S (nA (xWV ad)) s.heap H locs → W p l e ({ frames := 1, cells := 0, slots := 0, locals := 25 } : Room) s m args below meth c H locs 0 0 Q (F0 m pc ls [(.int res)]) := by
    intro pc ls H locs hd hP hS
    rw [hQ]
    exact n_iret C hr hlocks hd hP hS
  clear hQ
  obtain ⟨H, hH⟩ : ∃ H, H = s.heap := ⟨_, rfl⟩
  obtain ⟨locs, hlo⟩ : ∃ locs : List Loc, locs = [] := ⟨_, rfl⟩
  have hP : va_P G.1 vwCl (xW G.2 ad v_latestFault v_died v_leastWeight v_noticedBy v_noticed v_orderDied v_orderLeast v_imaged v_shelves v_refusals v_ran v_bodies v_tweight v_tfright v_tage v_tasked v_told v_bestRow v_weight_a1 v_fright_a1 v_age_a1 v_asked_a1 v_weight_a2 v_fright_a2 v_age_a2 v_asked_a2 v_weight_a3 v_fright_a3 v_age_a3 v_asked_a3 v_weight_a4 v_fright_a4 v_age_a4 v_asked_a4 v_many v_pets v_last v_seed v_weight v_fright v_age v_asked v_homes v_marks v_had v_allergic v_deaths) H := by rw [hH]; exact hP
  have hS : va_S (nA (xWV ad)) s.heap H locs := by rw [hH, hlo]; exact hS
  suffices hZ : W p l e ({ frames := 1, cells := 0, slots := 0, locals := 25 } : Room) s m args below meth c H locs 0 0 Q (F0 m 0 ls []) by rw [hH, hlo] at hZ; exact hZ
  clear hH hlo
  unfold sC_HW_trace at hE
  refine lv_iload_n C.1 C.2.1 dX0_trace_0 rfl (lv_at hl 1 rfl) ?_
  refine lv_i2l C.1 C.2.1 dX0_trace_1 rfl ?_
  refine lv_lconst (v := 0) C.1 C.2.1 dX0_trace_2 (by decide) ?_
  refine lv_aload_n C.1 C.2.1 dX0_trace_3 rfl (lv_at hl 0 rfl) ?_
  refine xWg_0_2 q240 C hP dX0_trace_4 ?_
  refine xWg_3_1 q134 C hP dX0_trace_7 ?_
  refine lv_bipush (v := 20) C.1 C.2.1 dX0_trace_10 (by decide) ?_
  refine va_mmin C.1 C.2.1 (by rw [hml]; exact hl.1.symm) C.2.2.1 (C.2.2.2.1 _ q1084) (C.2.2.2.1 _ q623) (C.2.2.2.1 _ q101) (C.2.2.2.1 _ q624) (Nat.le_of_ble_eq_true rfl) (Nat.le_of_ble_eq_true rfl) (Nat.zero_le _) (Nat.zero_le _) dX0_trace_12 ?_
  refine lv_iconst (v := 1) C.1 C.2.1 dX0_trace_15 (by decide) ?_
  refine lv_isub C.1 C.2.1 dX0_trace_16 ?_
  refine lv_i2l C.1 C.2.1 dX0_trace_17 rfl ?_
  obtain ⟨r1, hr1, hE⟩ := it_b hE
  refine n_after [] C.2.2.2.2.2.1 C.2.2.2.2.2.2.2.1 hP hS (va_runS (As := [.long ((p1 : Int32).toInt64), .long 0, .long ((((imin v_ran 20) - 1) : Int32).toInt64)]) (rest := []) ⟨C.1, C.2.1, hml, C.2.2.1, C.2.2.2.1⟩ (metC_HW_in l G ad pl  ((p1 : Int32).toInt64) 0 ((((imin v_ran 20) - 1) : Int32).toInt64)  r1 hr1) (va_cwS 3 C.2.2.2.1 (lw_S q401 q402 q80 q403) rfl rfl rfl (by decide +kernel) ⟨Nat.le_of_ble_eq_true rfl, Nat.le_of_ble_eq_true rfl⟩) (n_preS C hP hS [] rfl (by decide) rfl) rfl rfl hl.1 rfl (lv_room (Nat.le_of_ble_eq_true rfl)) dX0_trace_18 ⟨Nat.le_refl _, Nat.le_refl _⟩) xW_av rfl rfl rfl (fun H locs hP hS => ?_)
  refine lv_if_eq (tgt := 36) C.1 C.2.1 dX0_trace_21 (by decide) (fun c2 => ?_) (fun c2 => ?_)
  · have hE := it_t c2 hE
    refine lv_iconst (v := (-1)) C.1 C.2.1 dX0_trace_36 (by decide) ?_
    obtain rfl := Option.some.inj hE
    exact hret _ _ _ _ dX0_trace_37 hP hS
  · have hE := it_f c2 hE
    refine lv_aload_n C.1 C.2.1 dX0_trace_24 rfl (lv_at hl 0 rfl) ?_
    refine xWg_0_2 q240 C hP dX0_trace_25 ?_
    refine xWg_3_0 q132 C hP dX0_trace_28 ?_
    refine lv_iload_n C.1 C.2.1 dX0_trace_31 rfl (lv_at hl 1 rfl) ?_
    obtain ⟨g3, hE⟩ := it_g hE
    refine xWl_4 (v := (v_bodies (p1).toNatClampNeg)) C hP (gi_in g3) rfl dX0_trace_32 ?_
    refine lv_goto (tgt := 37) C.1 C.2.1 dX0_trace_33 (by decide) ?_
    obtain rfl := Option.some.inj hE
    exact hret _ _ _ _ dX0_trace_37 hP hS
def sC_HW_status (v_refusals : Nat → Int32) (v_ran : Int32) (v_many : Int32) (v_pets : Int32) (v_last : Int32) (v_seed : Int32) (v_weight : Int32) (v_fright : Int32) (v_age : Int32) (v_asked : Nat → Int32) (v_allergic : Nat → Int32) (v_deaths : Nat → Int32) (p1 : Int32) : Option (Int32) :=
  (sC_HW_in ((p1 : Int32).toInt64) 2 7).bind fun r1 =>
  if r1 = 0 then
    if p1 = 0 then
      some v_many
    else
    if p1 = 1 then
      (sC_Room_mayMany v_many v_allergic).bind fun r5 =>
      some r5
    else
    if p1 = 8 then
      some v_pets
    else
    if p1 = 9 then
      some v_last
    else
    if p1 = 10 then
      some v_seed
    else
    if p1 = 18 then
      if gi (p1 - 18) 3 then
      some (v_deaths ((p1 - 18)).toNatClampNeg)
      else none
    else
    if p1 = 19 then
      if gi (p1 - 18) 3 then
      some (v_deaths ((p1 - 18)).toNatClampNeg)
      else none
    else
    if p1 = 20 then
      if gi (p1 - 18) 3 then
      some (v_deaths ((p1 - 18)).toNatClampNeg)
      else none
    else
    if p1 = 21 then
      some v_ran
    else
    (sC_HW_in ((p1 : Int32).toInt64) 11 17).bind fun r29 =>
    if r29 = 0 then
      some (-1)
    else
      if gi (p1 - 10) 8 then
      some (v_refusals ((p1 - 10)).toNatClampNeg)
      else none
  else
    (sC_HW_asked v_weight v_fright v_age v_asked (p1 - 2)).bind fun r32 =>
    some r32
set_option maxHeartbeats 4000000 in
theorem metC_HW_status (l : Launch) (G : kG) (ad : Nat → Nat) (pl : va_W) (v_latestFault : Int32) (v_died : Int32) (v_leastWeight : Int32) (v_noticedBy : Int32) (v_noticed : Int32) (v_orderDied : Int32) (v_orderLeast : Int32) (v_imaged : Option Nat) (v_shelves : Nat → Option Nat) (v_refusals : Nat → Int32) (v_ran : Int32) (v_bodies : Nat → Int32) (v_tweight : Int32) (v_tfright : Int32) (v_tage : Int32) (v_tasked : Nat → Int32) (v_told : Nat → Int32) (v_bestRow : Nat → Int32) (v_weight_a1 : Int32) (v_fright_a1 : Int32) (v_age_a1 : Int32) (v_asked_a1 : Nat → Int32) (v_weight_a2 : Int32) (v_fright_a2 : Int32) (v_age_a2 : Int32) (v_asked_a2 : Nat → Int32) (v_weight_a3 : Int32) (v_fright_a3 : Int32) (v_age_a3 : Int32) (v_asked_a3 : Nat → Int32) (v_weight_a4 : Int32) (v_fright_a4 : Int32) (v_age_a4 : Int32) (v_asked_a4 : Nat → Int32) (v_many : Int32) (v_pets : Int32) (v_last : Int32) (v_seed : Int32) (v_weight : Int32) (v_fright : Int32) (v_age : Int32) (v_asked : Nat → Int32) (v_homes : Nat → Option Nat) (v_marks : Nat → Int32) (v_had : Nat → Int32) (v_allergic : Nat → Int32) (v_deaths : Nat → Int32) (p1 : Int32) (res : Int32) (hE : sC_HW_status v_refusals v_ran v_many v_pets v_last v_seed v_weight v_fright v_age v_asked v_allergic v_deaths p1 = some res) : Met l yX0_status (ws_ yX0_status cX0_status 2 (some .int)) ({ frames := 4, cells := 0, slots := 0, locals := 89 } : Room) (nPc G (xW G.2 ad v_latestFault v_died v_leastWeight v_noticedBy v_noticed v_orderDied v_orderLeast v_imaged v_shelves v_refusals v_ran v_bodies v_tweight v_tfright v_tage v_tasked v_told v_bestRow v_weight_a1 v_fright_a1 v_age_a1 v_asked_a1 v_weight_a2 v_fright_a2 v_age_a2 v_asked_a2 v_weight_a3 v_fright_a3 v_age_a3 v_asked_a3 v_weight_a4 v_fright_a4 v_age_a4 v_asked_a4 v_many v_pets v_last v_seed v_weight v_fright v_age v_asked v_homes v_marks v_had v_allergic v_deaths) pl (xWV ad) [.ref (ad 0), .int p1]) (nQc G (xW G.2 ad v_latestFault v_died v_leastWeight v_noticedBy v_noticed v_orderDied v_orderLeast v_imaged v_shelves v_refusals v_ran v_bodies v_tweight v_tfright v_tage v_tasked v_told v_bestRow v_weight_a1 v_fright_a1 v_age_a1 v_asked_a1 v_weight_a2 v_fright_a2 v_age_a2 v_asked_a2 v_weight_a3 v_fright_a3 v_age_a3 v_asked_a3 v_weight_a4 v_fright_a4 v_age_a4 v_asked_a4 v_many v_pets v_last v_seed v_weight v_fright v_age v_asked v_homes v_marks v_had v_allergic v_deaths) (xWV ad) (some (.int res))) 0 0 (nA (xWV ad)) := by
  refine n_ofW (own := RX0) (by decide) rfl (Nat.le_of_ble_eq_true rfl) ?_
  intro p e s m args below meth c ls C hml hP hS hl hr hlocks
  have hl : lv_has ls 2 [(0, .ref (ad 0)), (1, .int p1)] := hl
  obtain ⟨Q, hQ⟩ : ∃ Q, Q = MQ below (nQc G (xW G.2 ad v_latestFault v_died v_leastWeight v_noticedBy v_noticed v_orderDied v_orderLeast v_imaged v_shelves v_refusals v_ran v_bodies v_tweight v_tfright v_tage v_tasked v_told v_bestRow v_weight_a1 v_fright_a1 v_age_a1 v_asked_a1 v_weight_a2 v_fright_a2 v_age_a2 v_asked_a2 v_weight_a3 v_fright_a3 v_age_a3 v_asked_a3 v_weight_a4 v_fright_a4 v_age_a4 v_asked_a4 v_many v_pets v_last v_seed v_weight v_fright v_age v_asked v_homes v_marks v_had v_allergic v_deaths) (xWV ad) (some (.int res))) args s 0 0 (nA (xWV ad)) := ⟨_, rfl⟩
  rw [← hQ]
  have hret : ∀ (pc : Nat) (ls : Array Slot) (H : Heap) (locs : List Loc), decode cX0_status pc = .ok (.ireturn, 1) → va_P G.1 vwCl (xW G.2 ad v_latestFault v_died v_leastWeight v_noticedBy v_noticed v_orderDied v_orderLeast v_imaged v_shelves v_refusals v_ran v_bodies v_tweight v_tfright v_tage v_tasked v_told v_bestRow v_weight_a1 v_fright_a1 v_age_a1 v_asked_a1 v_weight_a2 v_fright_a2 v_age_a2 v_asked_a2 v_weight_a3 v_fright_a3 v_age_a3 v_asked_a3 v_weight_a4 v_fright_a4 v_age_a4 v_asked_a4 v_many v_pets v_last v_seed v_weight v_fright v_age v_asked v_homes v_marks v_had v_allergic v_deaths) H → va_S (nA (xWV ad)) s.heap H locs → W p l e ({ frames := 4, cells := 0, slots := 0, locals := 89 } : Room) s m args below meth c H locs 0 0 Q (F0 m pc ls [(.int res)]) := by
    intro pc ls H locs hd hP hS
    rw [hQ]
    exact n_iret C hr hlocks hd hP hS
  clear hQ
  obtain ⟨H, hH⟩ : ∃ H, H = s.heap := ⟨_, rfl⟩
  obtain ⟨locs, hlo⟩ : ∃ locs : List Loc, locs = [] := ⟨_, rfl⟩
  have hP : va_P G.1 vwCl (xW G.2 ad v_latestFault v_died v_leastWeight v_noticedBy v_noticed v_orderDied v_orderLeast v_imaged v_shelves v_refusals v_ran v_bodies v_tweight v_tfright v_tage v_tasked v_told v_bestRow v_weight_a1 v_fright_a1 v_age_a1 v_asked_a1 v_weight_a2 v_fright_a2 v_age_a2 v_asked_a2 v_weight_a3 v_fright_a3 v_age_a3 v_asked_a3 v_weight_a4 v_fright_a4 v_age_a4 v_asked_a4 v_many v_pets v_last v_seed v_weight v_fright v_age v_asked v_homes v_marks v_had v_allergic v_deaths) H := by rw [hH]; exact hP
  have hS : va_S (nA (xWV ad)) s.heap H locs := by rw [hH, hlo]; exact hS
  suffices hZ : W p l e ({ frames := 4, cells := 0, slots := 0, locals := 89 } : Room) s m args below meth c H locs 0 0 Q (F0 m 0 ls []) by rw [hH, hlo] at hZ; exact hZ
  clear hH hlo
  unfold sC_HW_status at hE
  refine lv_iload_n C.1 C.2.1 dX0_status_0 rfl (lv_at hl 1 rfl) ?_
  refine lv_i2l C.1 C.2.1 dX0_status_1 rfl ?_
  refine lv_ldc2 C.1 C.2.1 C.2.2.1 (C.2.2.2.1 _ q1317) dX0_status_2 ?_
  refine lv_ldc2 C.1 C.2.1 C.2.2.1 (C.2.2.2.1 _ q1318) dX0_status_5 ?_
  obtain ⟨r1, hr1, hE⟩ := it_b hE
  refine n_after [] C.2.2.2.2.2.1 C.2.2.2.2.2.2.2.1 hP hS (va_runS (As := [.long ((p1 : Int32).toInt64), .long 2, .long 7]) (rest := []) ⟨C.1, C.2.1, hml, C.2.2.1, C.2.2.2.1⟩ (metC_HW_in l G ad pl  ((p1 : Int32).toInt64) 2 7  r1 hr1) (va_cwS 3 C.2.2.2.1 (lw_S q401 q402 q80 q403) rfl rfl rfl (by decide +kernel) ⟨Nat.le_of_ble_eq_true rfl, Nat.le_of_ble_eq_true rfl⟩) (n_preS C hP hS [] rfl (by decide) rfl) rfl rfl hl.1 rfl (lv_room (Nat.le_of_ble_eq_true rfl)) dX0_status_8 ⟨Nat.le_refl _, Nat.le_refl _⟩) xW_av rfl rfl rfl (fun H locs hP hS => ?_)
  refine lv_if_eq (tgt := 22) C.1 C.2.1 dX0_status_11 (by decide) (fun c2 => ?_) (fun c2 => ?_)
  · have hE := it_t c2 hE
    refine lv_iload_n C.1 C.2.1 dX0_status_22 rfl (lv_at hl 1 rfl) ?_
    by_cases c3 : p1 = 0
    · have hE := it_t c3 hE
      refine lv_tableIn (tgt := 124) C.1 C.2.1 dX0_status_23 (by rw [c3]; decide) (by rw [c3]; decide) (by rw [c3]; rfl) (by decide) ?_
      refine lv_aload_n C.1 C.2.1 dX0_status_124 rfl (lv_at hl 0 rfl) ?_
      refine xWg_0_6 q244 C hP dX0_status_125 ?_
      refine xWg_18_0 q182 C hP dX0_status_128 ?_
      obtain rfl := Option.some.inj hE
      exact hret _ _ _ _ dX0_status_131 hP hS
    have hE := it_f c3 hE
    by_cases c4 : p1 = 1
    · have hE := it_t c4 hE
      refine lv_tableIn (tgt := 132) C.1 C.2.1 dX0_status_23 (by rw [c4]; decide) (by rw [c4]; decide) (by rw [c4]; rfl) (by decide) ?_
      refine lv_aload_n C.1 C.2.1 dX0_status_132 rfl (lv_at hl 0 rfl) ?_
      refine xWg_0_6 q244 C hP dX0_status_133 ?_
      obtain ⟨r5, hr5, hE⟩ := it_b hE
      refine n_after [18, 19, 20, 21, 22, 23, 24, 25] C.2.2.2.2.2.1 C.2.2.2.2.2.2.2.1 hP hS (va_runV (As := []) (rest := []) ⟨C.1, C.2.1, hml, C.2.2.1, C.2.2.2.1⟩ (metC_Room_mayMany l G (fun i => ad (18 + i)) pl _ _ _ _ _ _ _ _ _ _ _ _ _   r5 hr5) (cwV (C := RX3) 0 C.2.2.2.1 (lw_V q1113 q1114 q1115 q83 q1116) rfl rfl rfl (by decide +kernel) ⟨Nat.le_of_ble_eq_true rfl, Nat.le_of_ble_eq_true rfl⟩) (n_preV C hP hS [18, 19, 20, 21, 22, 23, 24, 25] sub_xW_rW_18 (by decide) rfl (va_recv C.2.2.2.2.1 hP (ci := 12) (q0 := 18) rfl rfl)) rfl rfl hl.1 rfl (lv_room (Nat.le_of_ble_eq_true rfl)) dX0_status_136 ⟨Nat.le_refl _, Nat.le_refl _⟩) xW_av rfl rfl mg_xW_rW_18 (fun H locs hP hS => ?_)
      obtain rfl := Option.some.inj hE
      exact hret _ _ _ _ dX0_status_139 hP hS
    have hE := it_f c4 hE
    by_cases c6 : p1 = 8
    · have hE := it_t c6 hE
      refine lv_tableIn (tgt := 140) C.1 C.2.1 dX0_status_23 (by rw [c6]; decide) (by rw [c6]; decide) (by rw [c6]; rfl) (by decide) ?_
      refine lv_aload_n C.1 C.2.1 dX0_status_140 rfl (lv_at hl 0 rfl) ?_
      refine xWg_0_6 q244 C hP dX0_status_141 ?_
      refine xWg_18_1 q184 C hP dX0_status_144 ?_
      obtain rfl := Option.some.inj hE
      exact hret _ _ _ _ dX0_status_147 hP hS
    have hE := it_f c6 hE
    by_cases c7 : p1 = 9
    · have hE := it_t c7 hE
      refine lv_tableIn (tgt := 148) C.1 C.2.1 dX0_status_23 (by rw [c7]; decide) (by rw [c7]; decide) (by rw [c7]; rfl) (by decide) ?_
      refine lv_aload_n C.1 C.2.1 dX0_status_148 rfl (lv_at hl 0 rfl) ?_
      refine xWg_0_6 q244 C hP dX0_status_149 ?_
      refine xWg_18_2 q186 C hP dX0_status_152 ?_
      obtain rfl := Option.some.inj hE
      exact hret _ _ _ _ dX0_status_155 hP hS
    have hE := it_f c7 hE
    by_cases c8 : p1 = 10
    · have hE := it_t c8 hE
      refine lv_tableIn (tgt := 156) C.1 C.2.1 dX0_status_23 (by rw [c8]; decide) (by rw [c8]; decide) (by rw [c8]; rfl) (by decide) ?_
      refine lv_aload_n C.1 C.2.1 dX0_status_156 rfl (lv_at hl 0 rfl) ?_
      refine xWg_0_6 q244 C hP dX0_status_157 ?_
      refine xWg_18_3 q188 C hP dX0_status_160 ?_
      obtain rfl := Option.some.inj hE
      exact hret _ _ _ _ dX0_status_163 hP hS
    have hE := it_f c8 hE
    by_cases c9 : p1 = 18
    · have hE := it_t c9 hE
      refine lv_tableIn (tgt := 164) C.1 C.2.1 dX0_status_23 (by rw [c9]; decide) (by rw [c9]; decide) (by rw [c9]; rfl) (by decide) ?_
      refine lv_aload_n C.1 C.2.1 dX0_status_164 rfl (lv_at hl 0 rfl) ?_
      refine xWg_0_6 q244 C hP dX0_status_165 ?_
      refine xWg_18_9 q204 C hP dX0_status_168 ?_
      refine lv_iload_n C.1 C.2.1 dX0_status_171 rfl (lv_at hl 1 rfl) ?_
      refine lv_bipush (v := 18) C.1 C.2.1 dX0_status_172 (by decide) ?_
      refine lv_isub C.1 C.2.1 dX0_status_174 ?_
      obtain ⟨g10, hE⟩ := it_g hE
      refine xWl_25 (v := (v_deaths ((p1 - 18)).toNatClampNeg)) C hP (gi_in g10) rfl dX0_status_175 ?_
      obtain rfl := Option.some.inj hE
      exact hret _ _ _ _ dX0_status_176 hP hS
    have hE := it_f c9 hE
    by_cases c11 : p1 = 19
    · have hE := it_t c11 hE
      refine lv_tableIn (tgt := 164) C.1 C.2.1 dX0_status_23 (by rw [c11]; decide) (by rw [c11]; decide) (by rw [c11]; rfl) (by decide) ?_
      refine lv_aload_n C.1 C.2.1 dX0_status_164 rfl (lv_at hl 0 rfl) ?_
      refine xWg_0_6 q244 C hP dX0_status_165 ?_
      refine xWg_18_9 q204 C hP dX0_status_168 ?_
      refine lv_iload_n C.1 C.2.1 dX0_status_171 rfl (lv_at hl 1 rfl) ?_
      refine lv_bipush (v := 18) C.1 C.2.1 dX0_status_172 (by decide) ?_
      refine lv_isub C.1 C.2.1 dX0_status_174 ?_
      obtain ⟨g12, hE⟩ := it_g hE
      refine xWl_25 (v := (v_deaths ((p1 - 18)).toNatClampNeg)) C hP (gi_in g12) rfl dX0_status_175 ?_
      obtain rfl := Option.some.inj hE
      exact hret _ _ _ _ dX0_status_176 hP hS
    have hE := it_f c11 hE
    by_cases c13 : p1 = 20
    · have hE := it_t c13 hE
      refine lv_tableIn (tgt := 164) C.1 C.2.1 dX0_status_23 (by rw [c13]; decide) (by rw [c13]; decide) (by rw [c13]; rfl) (by decide) ?_
      refine lv_aload_n C.1 C.2.1 dX0_status_164 rfl (lv_at hl 0 rfl) ?_
      refine xWg_0_6 q244 C hP dX0_status_165 ?_
      refine xWg_18_9 q204 C hP dX0_status_168 ?_
      refine lv_iload_n C.1 C.2.1 dX0_status_171 rfl (lv_at hl 1 rfl) ?_
      refine lv_bipush (v := 18) C.1 C.2.1 dX0_status_172 (by decide) ?_
      refine lv_isub C.1 C.2.1 dX0_status_174 ?_
      obtain ⟨g14, hE⟩ := it_g hE
      refine xWl_25 (v := (v_deaths ((p1 - 18)).toNatClampNeg)) C hP (gi_in g14) rfl dX0_status_175 ?_
      obtain rfl := Option.some.inj hE
      exact hret _ _ _ _ dX0_status_176 hP hS
    have hE := it_f c13 hE
    by_cases c15 : p1 = 21
    · have hE := it_t c15 hE
      refine lv_tableIn (tgt := 177) C.1 C.2.1 dX0_status_23 (by rw [c15]; decide) (by rw [c15]; decide) (by rw [c15]; rfl) (by decide) ?_
      refine lv_aload_n C.1 C.2.1 dX0_status_177 rfl (lv_at hl 0 rfl) ?_
      refine xWg_0_2 q240 C hP dX0_status_178 ?_
      refine xWg_3_1 q134 C hP dX0_status_181 ?_
      obtain rfl := Option.some.inj hE
      exact hret _ _ _ _ dX0_status_184 hP hS
    have hE := it_f c15 hE
    refine sf_ (a := W p l e ({ frames := 4, cells := 0, slots := 0, locals := 89 } : Room) s m args below meth c H locs 0 0 Q (F0 m 185 ls [])) (fun hG => ?_) ?_
    · by_cases c16 : p1 = 2
      · exact lv_tableIn (tgt := 185) C.1 C.2.1 dX0_status_23 (by rw [c16]; decide) (by rw [c16]; decide) (by rw [c16]; rfl) (by decide) hG
      by_cases c17 : p1 = 3
      · exact lv_tableIn (tgt := 185) C.1 C.2.1 dX0_status_23 (by rw [c17]; decide) (by rw [c17]; decide) (by rw [c17]; rfl) (by decide) hG
      by_cases c18 : p1 = 4
      · exact lv_tableIn (tgt := 185) C.1 C.2.1 dX0_status_23 (by rw [c18]; decide) (by rw [c18]; decide) (by rw [c18]; rfl) (by decide) hG
      by_cases c19 : p1 = 5
      · exact lv_tableIn (tgt := 185) C.1 C.2.1 dX0_status_23 (by rw [c19]; decide) (by rw [c19]; decide) (by rw [c19]; rfl) (by decide) hG
      by_cases c20 : p1 = 6
      · exact lv_tableIn (tgt := 185) C.1 C.2.1 dX0_status_23 (by rw [c20]; decide) (by rw [c20]; decide) (by rw [c20]; rfl) (by decide) hG
      by_cases c21 : p1 = 7
      · exact lv_tableIn (tgt := 185) C.1 C.2.1 dX0_status_23 (by rw [c21]; decide) (by rw [c21]; decide) (by rw [c21]; rfl) (by decide) hG
      by_cases c22 : p1 = 11
      · exact lv_tableIn (tgt := 185) C.1 C.2.1 dX0_status_23 (by rw [c22]; decide) (by rw [c22]; decide) (by rw [c22]; rfl) (by decide) hG
      by_cases c23 : p1 = 12
      · exact lv_tableIn (tgt := 185) C.1 C.2.1 dX0_status_23 (by rw [c23]; decide) (by rw [c23]; decide) (by rw [c23]; rfl) (by decide) hG
      by_cases c24 : p1 = 13
      · exact lv_tableIn (tgt := 185) C.1 C.2.1 dX0_status_23 (by rw [c24]; decide) (by rw [c24]; decide) (by rw [c24]; rfl) (by decide) hG
      by_cases c25 : p1 = 14
      · exact lv_tableIn (tgt := 185) C.1 C.2.1 dX0_status_23 (by rw [c25]; decide) (by rw [c25]; decide) (by rw [c25]; rfl) (by decide) hG
      by_cases c26 : p1 = 15
      · exact lv_tableIn (tgt := 185) C.1 C.2.1 dX0_status_23 (by rw [c26]; decide) (by rw [c26]; decide) (by rw [c26]; rfl) (by decide) hG
      by_cases c27 : p1 = 16
      · exact lv_tableIn (tgt := 185) C.1 C.2.1 dX0_status_23 (by rw [c27]; decide) (by rw [c27]; decide) (by rw [c27]; rfl) (by decide) hG
      by_cases c28 : p1 = 17
      · exact lv_tableIn (tgt := 185) C.1 C.2.1 dX0_status_23 (by rw [c28]; decide) (by rw [c28]; decide) (by rw [c28]; rfl) (by decide) hG
      exact lv_tableOut (tgt := 185) C.1 C.2.1 dX0_status_23 (ts_e (ts_s (ts_s (ts_s (ts_s (ts_s (ts_s (ts_s (ts_s (ts_s (ts_s (ts_s (ts_s (ts_s (ts_s (ts_s (ts_s (ts_s (ts_s (ts_s (ts_s (ts_s (ts_s (ts_0 0) c3 rfl rfl) c4 rfl rfl) c16 rfl rfl) c17 rfl rfl) c18 rfl rfl) c19 rfl rfl) c20 rfl rfl) c21 rfl rfl) c6 rfl rfl) c7 rfl rfl) c8 rfl rfl) c22 rfl rfl) c23 rfl rfl) c24 rfl rfl) c25 rfl rfl) c26 rfl rfl) c27 rfl rfl) c28 rfl rfl) c9 rfl rfl) c11 rfl rfl) c13 rfl rfl) c15 rfl rfl) rfl) (by decide) hG
    refine lv_iload_n C.1 C.2.1 dX0_status_185 rfl (lv_at hl 1 rfl) ?_
    refine lv_i2l C.1 C.2.1 dX0_status_186 rfl ?_
    refine lv_ldc2 C.1 C.2.1 C.2.2.1 (C.2.2.2.1 _ q1319) dX0_status_187 ?_
    refine lv_ldc2 C.1 C.2.1 C.2.2.1 (C.2.2.2.1 _ q1320) dX0_status_190 ?_
    obtain ⟨r29, hr29, hE⟩ := it_b hE
    refine n_after [] C.2.2.2.2.2.1 C.2.2.2.2.2.2.2.1 hP hS (va_runS (As := [.long ((p1 : Int32).toInt64), .long 11, .long 17]) (rest := []) ⟨C.1, C.2.1, hml, C.2.2.1, C.2.2.2.1⟩ (metC_HW_in l G ad pl  ((p1 : Int32).toInt64) 11 17  r29 hr29) (va_cwS 3 C.2.2.2.1 (lw_S q401 q402 q80 q403) rfl rfl rfl (by decide +kernel) ⟨Nat.le_of_ble_eq_true rfl, Nat.le_of_ble_eq_true rfl⟩) (n_preS C hP hS [] rfl (by decide) rfl) rfl rfl hl.1 rfl (lv_room (Nat.le_of_ble_eq_true rfl)) dX0_status_193 ⟨Nat.le_refl _, Nat.le_refl _⟩) xW_av rfl rfl rfl (fun H locs hP hS => ?_)
    refine lv_if_eq (tgt := 211) C.1 C.2.1 dX0_status_196 (by decide) (fun c30 => ?_) (fun c30 => ?_)
    · have hE := it_t c30 hE
      refine lv_iconst (v := (-1)) C.1 C.2.1 dX0_status_211 (by decide) ?_
      obtain rfl := Option.some.inj hE
      exact hret _ _ _ _ dX0_status_212 hP hS
    · have hE := it_f c30 hE
      refine lv_aload_n C.1 C.2.1 dX0_status_199 rfl (lv_at hl 0 rfl) ?_
      refine xWg_0_1 q239 C hP dX0_status_200 ?_
      refine lv_iload_n C.1 C.2.1 dX0_status_203 rfl (lv_at hl 1 rfl) ?_
      refine lv_bipush (v := 10) C.1 C.2.1 dX0_status_204 (by decide) ?_
      refine lv_isub C.1 C.2.1 dX0_status_206 ?_
      obtain ⟨g31, hE⟩ := it_g hE
      refine xWl_2 (v := (v_refusals ((p1 - 10)).toNatClampNeg)) C hP (gi_in g31) rfl dX0_status_207 ?_
      refine lv_goto (tgt := 212) C.1 C.2.1 dX0_status_208 (by decide) ?_
      obtain rfl := Option.some.inj hE
      exact hret _ _ _ _ dX0_status_212 hP hS
  · have hE := it_f c2 hE
    refine lv_aload_n C.1 C.2.1 dX0_status_14 rfl (lv_at hl 0 rfl) ?_
    refine lv_iload_n C.1 C.2.1 dX0_status_15 rfl (lv_at hl 1 rfl) ?_
    refine lv_iconst (v := 2) C.1 C.2.1 dX0_status_16 (by decide) ?_
    refine lv_isub C.1 C.2.1 dX0_status_17 ?_
    obtain ⟨r32, hr32, hE⟩ := it_b hE
    refine n_afterS C.2.2.2.2.2.2.2.1 hS (va_runV (As := [.int (p1 - 2)]) (rest := []) ⟨C.1, C.2.1, hml, C.2.2.1, C.2.2.2.1⟩ (metC_HW_asked l G ad pl _ _ _ _ _ _ _ _ _ _ _ _ _ _ _ _ _ _ _ _ _ _ _ _ _ _ _ _ _ _ _ _ _ _ _ _ _ _ _ _ _ _ _ _ _ _ _ (p1 - 2)  r32 hr32) (cwV (C := RX0) 1 C.2.2.2.1 (lw_V q782 q784 qs5 q80 q785) rfl rfl rfl (by decide +kernel) ⟨Nat.le_of_ble_eq_true rfl, Nat.le_of_ble_eq_true rfl⟩) (n_preV0 C hP hS (va_recv C.2.2.2.2.1 hP (ci := 16) (q0 := 0) rfl rfl)) rfl rfl hl.1 rfl (lv_room (Nat.le_of_ble_eq_true rfl)) dX0_status_18 ⟨Nat.le_refl _, Nat.le_refl _⟩) (fun H locs hP hS => ?_)
    obtain rfl := Option.some.inj hE
    exact hret _ _ _ _ dX0_status_21 hP hS
def sC_HW_homeOf (v_refusals : Nat → Int32) (v_many : Int32) (v_homes : Nat → Option Nat) (v_marks : Nat → Int32) (v_had : Nat → Int32) (v_allergic : Nat → Int32) (hk : Nat → Nat) (hb : Nat → Int32) (p1 : Int32) (p2 : Int32) : Option (Int32 × (Nat → Int32)) :=
  (sC_Room_isHome v_many p1).bind fun r1 =>
  if r1 = 0 then
    (sC_HW_beyond v_refusals).bind fun r40 =>
    some (r40.1, r40.2)
  else
    if p2 = 0 then
      if gi p1 8 then
      if gm p1 v_many then
      if (hk (p1).toNatClampNeg) = 0 then
        (sC_Home_kind_0 p1 (hb (p1).toNatClampNeg)).bind fun r9 =>
        some (r9, v_refusals)
      else
      if (hk (p1).toNatClampNeg) = 1 then
        (sC_Good_kind_1 p1 (hb (p1).toNatClampNeg)).bind fun r12 =>
        some (r12, v_refusals)
      else
      if (hk (p1).toNatClampNeg) = 2 then
        (sC_Cat_kind_2 p1 (hb (p1).toNatClampNeg)).bind fun r15 =>
        some (r15, v_refusals)
      else
      if (hk (p1).toNatClampNeg) = 3 then
        (sC_Overfed_kind_3 p1 (hb (p1).toNatClampNeg)).bind fun r18 =>
        some (r18, v_refusals)
      else
      if (hk (p1).toNatClampNeg) = 4 then
        (sC_Far_kind_4 p1 (hb (p1).toNatClampNeg)).bind fun r21 =>
        some (r21, v_refusals)
      else
      if (hk (p1).toNatClampNeg) = 5 then
        (sC_Dog_kind_5 p1 (hb (p1).toNatClampNeg)).bind fun r24 =>
        some (r24, v_refusals)
      else
      if (hk (p1).toNatClampNeg) = 6 then
        (sC_Bus_kind_6 p1 (hb (p1).toNatClampNeg)).bind fun r27 =>
        some (r27, v_refusals)
      else
      none
      else none
      else none
    else
    if p2 = 1 then
      if gi p1 8 then
      if gm p1 v_many then
      some ((hb (p1).toNatClampNeg), v_refusals)
      else none
      else none
    else
    if p2 = 2 then
      if gi p1 8 then
      some ((v_marks (p1).toNatClampNeg), v_refusals)
      else none
    else
    if p2 = 3 then
      if gi p1 8 then
      if (v_allergic (p1).toNatClampNeg) = 0 then
        some (0, v_refusals)
      else
        some (1, v_refusals)
      else none
    else
    if p2 = 4 then
      if gi p1 8 then
      some ((v_had (p1).toNatClampNeg), v_refusals)
      else none
    else
    (sC_HW_beyond v_refusals).bind fun r39 =>
    some (r39.1, r39.2)
set_option maxHeartbeats 4000000 in
theorem metC_HW_homeOf (l : Launch) (G : kG) (ad : Nat → Nat) (pl : va_W) (hk : Nat → Nat) (hb : Nat → Int32) (v_latestFault : Int32) (v_died : Int32) (v_leastWeight : Int32) (v_noticedBy : Int32) (v_noticed : Int32) (v_orderDied : Int32) (v_orderLeast : Int32) (v_imaged : Option Nat) (v_shelves : Nat → Option Nat) (v_refusals : Nat → Int32) (v_ran : Int32) (v_bodies : Nat → Int32) (v_tweight : Int32) (v_tfright : Int32) (v_tage : Int32) (v_tasked : Nat → Int32) (v_told : Nat → Int32) (v_bestRow : Nat → Int32) (v_weight_a1 : Int32) (v_fright_a1 : Int32) (v_age_a1 : Int32) (v_asked_a1 : Nat → Int32) (v_weight_a2 : Int32) (v_fright_a2 : Int32) (v_age_a2 : Int32) (v_asked_a2 : Nat → Int32) (v_weight_a3 : Int32) (v_fright_a3 : Int32) (v_age_a3 : Int32) (v_asked_a3 : Nat → Int32) (v_weight_a4 : Int32) (v_fright_a4 : Int32) (v_age_a4 : Int32) (v_asked_a4 : Nat → Int32) (v_many : Int32) (v_pets : Int32) (v_last : Int32) (v_seed : Int32) (v_weight : Int32) (v_fright : Int32) (v_age : Int32) (v_asked : Nat → Int32) (v_homes : Nat → Option Nat) (v_marks : Nat → Int32) (v_had : Nat → Int32) (v_allergic : Nat → Int32) (v_deaths : Nat → Int32) (hom : homOK v_homes v_many hk hb pl) (p1 : Int32) (p2 : Int32) (res : Int32 × (Nat → Int32)) (hE : sC_HW_homeOf v_refusals v_many v_homes v_marks v_had v_allergic hk hb p1 p2 = some res) : Met l yX0_homeOf (ws_ yX0_homeOf cX0_homeOf 3 (some .int)) ({ frames := 2, cells := 0, slots := 0, locals := 46 } : Room) (nPc G (xW G.2 ad v_latestFault v_died v_leastWeight v_noticedBy v_noticed v_orderDied v_orderLeast v_imaged v_shelves v_refusals v_ran v_bodies v_tweight v_tfright v_tage v_tasked v_told v_bestRow v_weight_a1 v_fright_a1 v_age_a1 v_asked_a1 v_weight_a2 v_fright_a2 v_age_a2 v_asked_a2 v_weight_a3 v_fright_a3 v_age_a3 v_asked_a3 v_weight_a4 v_fright_a4 v_age_a4 v_asked_a4 v_many v_pets v_last v_seed v_weight v_fright v_age v_asked v_homes v_marks v_had v_allergic v_deaths) pl (xWV ad) [.ref (ad 0), .int p1, .int p2]) (nQc G (xW G.2 ad v_latestFault v_died v_leastWeight v_noticedBy v_noticed v_orderDied v_orderLeast v_imaged v_shelves res.2 v_ran v_bodies v_tweight v_tfright v_tage v_tasked v_told v_bestRow v_weight_a1 v_fright_a1 v_age_a1 v_asked_a1 v_weight_a2 v_fright_a2 v_age_a2 v_asked_a2 v_weight_a3 v_fright_a3 v_age_a3 v_asked_a3 v_weight_a4 v_fright_a4 v_age_a4 v_asked_a4 v_many v_pets v_last v_seed v_weight v_fright v_age v_asked v_homes v_marks v_had v_allergic v_deaths) (xWV ad) (some (.int res.1))) 0 0 (nA (xWV ad)) := by
  refine n_ofW (own := RX0) (by decide) rfl (Nat.le_of_ble_eq_true rfl) ?_
  intro p e s m args below meth c ls C hml hP hS hl hr hlocks
  have hl : lv_has ls 3 [(0, .ref (ad 0)), (1, .int p1), (2, .int p2)] := hl
  obtain ⟨Q, hQ⟩ : ∃ Q, Q = MQ below (nQc G (xW G.2 ad v_latestFault v_died v_leastWeight v_noticedBy v_noticed v_orderDied v_orderLeast v_imaged v_shelves res.2 v_ran v_bodies v_tweight v_tfright v_tage v_tasked v_told v_bestRow v_weight_a1 v_fright_a1 v_age_a1 v_asked_a1 v_weight_a2 v_fright_a2 v_age_a2 v_asked_a2 v_weight_a3 v_fright_a3 v_age_a3 v_asked_a3 v_weight_a4 v_fright_a4 v_age_a4 v_asked_a4 v_many v_pets v_last v_seed v_weight v_fright v_age v_asked v_homes v_marks v_had v_allergic v_deaths) (xWV ad) (some (.int res.1))) args s 0 0 (nA (xWV ad)) := ⟨_, rfl⟩
  rw [← hQ]
  have hret : ∀ (pc : Nat) (ls : Array Slot) (H : Heap) (locs : List Loc), decode cX0_homeOf pc = .ok (.ireturn, 1) → va_P G.1 vwCl (xW G.2 ad v_latestFault v_died v_leastWeight v_noticedBy v_noticed v_orderDied v_orderLeast v_imaged v_shelves res.2 v_ran v_bodies v_tweight v_tfright v_tage v_tasked v_told v_bestRow v_weight_a1 v_fright_a1 v_age_a1 v_asked_a1 v_weight_a2 v_fright_a2 v_age_a2 v_asked_a2 v_weight_a3 v_fright_a3 v_age_a3 v_asked_a3 v_weight_a4 v_fright_a4 v_age_a4 v_asked_a4 v_many v_pets v_last v_seed v_weight v_fright v_age v_asked v_homes v_marks v_had v_allergic v_deaths) H → va_S (nA (xWV ad)) s.heap H locs → W p l e ({ frames := 2, cells := 0, slots := 0, locals := 46 } : Room) s m args below meth c H locs 0 0 Q (F0 m pc ls [(.int res.1)]) := by
    intro pc ls H locs hd hP hS
    rw [hQ]
    exact n_iret C hr hlocks hd hP hS
  clear hQ
  obtain ⟨H, hH⟩ : ∃ H, H = s.heap := ⟨_, rfl⟩
  obtain ⟨locs, hlo⟩ : ∃ locs : List Loc, locs = [] := ⟨_, rfl⟩
  have hP : va_P G.1 vwCl (xW G.2 ad v_latestFault v_died v_leastWeight v_noticedBy v_noticed v_orderDied v_orderLeast v_imaged v_shelves v_refusals v_ran v_bodies v_tweight v_tfright v_tage v_tasked v_told v_bestRow v_weight_a1 v_fright_a1 v_age_a1 v_asked_a1 v_weight_a2 v_fright_a2 v_age_a2 v_asked_a2 v_weight_a3 v_fright_a3 v_age_a3 v_asked_a3 v_weight_a4 v_fright_a4 v_age_a4 v_asked_a4 v_many v_pets v_last v_seed v_weight v_fright v_age v_asked v_homes v_marks v_had v_allergic v_deaths) H := by rw [hH]; exact hP
  have hS : va_S (nA (xWV ad)) s.heap H locs := by rw [hH, hlo]; exact hS
  suffices hZ : W p l e ({ frames := 2, cells := 0, slots := 0, locals := 46 } : Room) s m args below meth c H locs 0 0 Q (F0 m 0 ls []) by rw [hH, hlo] at hZ; exact hZ
  clear hH hlo
  unfold sC_HW_homeOf at hE
  refine lv_aload_n C.1 C.2.1 dX0_homeOf_0 rfl (lv_at hl 0 rfl) ?_
  refine xWg_0_6 q244 C hP dX0_homeOf_1 ?_
  refine lv_iload_n C.1 C.2.1 dX0_homeOf_4 rfl (lv_at hl 1 rfl) ?_
  obtain ⟨r1, hr1, hE⟩ := it_b hE
  refine n_after [18, 19, 20, 21, 22, 23, 24, 25] C.2.2.2.2.2.1 C.2.2.2.2.2.2.2.1 hP hS (va_runV (As := [.int p1]) (rest := []) ⟨C.1, C.2.1, hml, C.2.2.1, C.2.2.2.1⟩ (metC_Room_isHome l G (fun i => ad (18 + i)) pl _ _ _ _ _ _ _ _ _ _ _ _ _ p1  r1 hr1) (cwV (C := RX3) 1 C.2.2.2.1 (lw_V q581 q582 q583 q83 q584) rfl rfl rfl (by decide +kernel) ⟨Nat.le_of_ble_eq_true rfl, Nat.le_of_ble_eq_true rfl⟩) (n_preV C hP hS [18, 19, 20, 21, 22, 23, 24, 25] sub_xW_rW_18 (by decide) rfl (va_recv C.2.2.2.2.1 hP (ci := 12) (q0 := 18) rfl rfl)) rfl rfl hl.1 rfl (lv_room (Nat.le_of_ble_eq_true rfl)) dX0_homeOf_5 ⟨Nat.le_refl _, Nat.le_refl _⟩) xW_av rfl rfl mg_xW_rW_18 (fun H locs hP hS => ?_)
  refine lv_if_ne (tgt := 16) C.1 C.2.1 dX0_homeOf_8 (by decide) (fun c2 => ?_) (fun c2 => ?_)
  · have hE := it_f c2 hE
    refine lv_iload_n C.1 C.2.1 dX0_homeOf_16 rfl (lv_at hl 2 rfl) ?_
    by_cases c3 : p2 = 0
    · have hE := it_t c3 hE
      refine lv_tableIn (tgt := 52) C.1 C.2.1 dX0_homeOf_17 (by rw [c3]; decide) (by rw [c3]; decide) (by rw [c3]; rfl) (by decide) ?_
      refine lv_aload_n C.1 C.2.1 dX0_homeOf_52 rfl (lv_at hl 0 rfl) ?_
      refine xWg_0_6 q244 C hP dX0_homeOf_53 ?_
      refine xWg_18_5 q193 C hP dX0_homeOf_56 ?_
      refine lv_iload_n C.1 C.2.1 dX0_homeOf_59 rfl (lv_at hl 1 rfl) ?_
      obtain ⟨g4, hE⟩ := it_g hE
      obtain ⟨g5, hE⟩ := it_g hE
      obtain ⟨q6, hq60, hq6, hq67⟩ := hom _ g5
      refine xWl_21 (v := some q6) C hP (gi_in g4) hq60 dX0_homeOf_60 ?_
      by_cases c7 : (hk (p1).toNatClampNeg) = 0
      · have hE := it_t c7 hE
        have hq8 := hq6
        rw [c7] at hq8
        obtain ⟨r9, hr9, hE⟩ := it_b hE
        refine n_after [] C.2.2.2.2.2.1 C.2.2.2.2.2.2.2.1 hP hS (va_runV (As := []) (rest := []) ⟨C.1, C.2.1, hml, C.2.2.1, C.2.2.2.1⟩ (metC_Home_kind_0 l G ad pl  q6 p1 (hb (p1).toNatClampNeg) hq8 r9 hr9) (cwV (C := RX12) 0 C.2.2.2.1 (lw_V q740 q741 q742 q102 q762) rfl rfl rfl (by decide +kernel) ⟨Nat.le_of_ble_eq_true rfl, Nat.le_of_ble_eq_true rfl⟩) (n_preV C hP hS [] rfl (by decide) rfl (n_recvH C hS hq8 rfl)) rfl rfl hl.1 rfl (lv_room (Nat.le_of_ble_eq_true rfl)) dX0_homeOf_61 ⟨Nat.le_refl _, Nat.le_refl _⟩) xW_av rfl rfl rfl (fun H locs hP hS => ?_)
        obtain rfl := Option.some.inj hE
        exact hret _ _ _ _ dX0_homeOf_64 hP hS
      have hE := it_f c7 hE
      by_cases c10 : (hk (p1).toNatClampNeg) = 1
      · have hE := it_t c10 hE
        have hq11 := hq6
        rw [c10] at hq11
        obtain ⟨r12, hr12, hE⟩ := it_b hE
        refine n_after [] C.2.2.2.2.2.1 C.2.2.2.2.2.2.2.1 hP hS (va_runU (As := []) (rest := []) ⟨C.1, C.2.1, hml, C.2.2.1, C.2.2.2.1⟩ (metC_Good_kind_1 l G ad pl  q6 p1 (hb (p1).toNatClampNeg) hq11 r12 hr12) (va_cwO (C := RX13) (owner := "HamsterWeekends$Home") 0 C.2.2.2.1 (lw_O q740 q743 q741 q756 q757 q103 q758) rfl rfl rfl q762 (by decide +kernel) ⟨Nat.le_of_ble_eq_true rfl, Nat.le_of_ble_eq_true rfl⟩) (n_preV C hP hS [] rfl (by decide) rfl (n_recvH C hS hq11 rfl)) rfl rfl hl.1 rfl (lv_room (Nat.le_of_ble_eq_true rfl)) dX0_homeOf_61 ⟨Nat.le_refl _, Nat.le_refl _⟩) xW_av rfl rfl rfl (fun H locs hP hS => ?_)
        obtain rfl := Option.some.inj hE
        exact hret _ _ _ _ dX0_homeOf_64 hP hS
      have hE := it_f c10 hE
      by_cases c13 : (hk (p1).toNatClampNeg) = 2
      · have hE := it_t c13 hE
        have hq14 := hq6
        rw [c13] at hq14
        obtain ⟨r15, hr15, hE⟩ := it_b hE
        refine n_after [] C.2.2.2.2.2.1 C.2.2.2.2.2.2.2.1 hP hS (va_runU (As := []) (rest := []) ⟨C.1, C.2.1, hml, C.2.2.1, C.2.2.2.1⟩ (metC_Cat_kind_2 l G ad pl  q6 p1 (hb (p1).toNatClampNeg) hq14 r15 hr15) (va_cwO (C := RX14) (owner := "HamsterWeekends$Home") 0 C.2.2.2.1 (lw_O q740 q743 q741 q747 q748 q104 q749) rfl rfl rfl q762 (by decide +kernel) ⟨Nat.le_of_ble_eq_true rfl, Nat.le_of_ble_eq_true rfl⟩) (n_preV C hP hS [] rfl (by decide) rfl (n_recvH C hS hq14 rfl)) rfl rfl hl.1 rfl (lv_room (Nat.le_of_ble_eq_true rfl)) dX0_homeOf_61 ⟨Nat.le_refl _, Nat.le_refl _⟩) xW_av rfl rfl rfl (fun H locs hP hS => ?_)
        obtain rfl := Option.some.inj hE
        exact hret _ _ _ _ dX0_homeOf_64 hP hS
      have hE := it_f c13 hE
      by_cases c16 : (hk (p1).toNatClampNeg) = 3
      · have hE := it_t c16 hE
        have hq17 := hq6
        rw [c16] at hq17
        obtain ⟨r18, hr18, hE⟩ := it_b hE
        refine n_after [] C.2.2.2.2.2.1 C.2.2.2.2.2.2.2.1 hP hS (va_runU (As := []) (rest := []) ⟨C.1, C.2.1, hml, C.2.2.1, C.2.2.2.1⟩ (metC_Overfed_kind_3 l G ad pl  q6 p1 (hb (p1).toNatClampNeg) hq17 r18 hr18) (va_cwO (C := RX15) (owner := "HamsterWeekends$Home") 0 C.2.2.2.1 (lw_O q740 q743 q741 q759 q760 q105 q761) rfl rfl rfl q762 (by decide +kernel) ⟨Nat.le_of_ble_eq_true rfl, Nat.le_of_ble_eq_true rfl⟩) (n_preV C hP hS [] rfl (by decide) rfl (n_recvH C hS hq17 rfl)) rfl rfl hl.1 rfl (lv_room (Nat.le_of_ble_eq_true rfl)) dX0_homeOf_61 ⟨Nat.le_refl _, Nat.le_refl _⟩) xW_av rfl rfl rfl (fun H locs hP hS => ?_)
        obtain rfl := Option.some.inj hE
        exact hret _ _ _ _ dX0_homeOf_64 hP hS
      have hE := it_f c16 hE
      by_cases c19 : (hk (p1).toNatClampNeg) = 4
      · have hE := it_t c19 hE
        have hq20 := hq6
        rw [c19] at hq20
        obtain ⟨r21, hr21, hE⟩ := it_b hE
        refine n_after [] C.2.2.2.2.2.1 C.2.2.2.2.2.2.2.1 hP hS (va_runU (As := []) (rest := []) ⟨C.1, C.2.1, hml, C.2.2.1, C.2.2.2.1⟩ (metC_Far_kind_4 l G ad pl  q6 p1 (hb (p1).toNatClampNeg) hq20 r21 hr21) (va_cwO (C := RX16) (owner := "HamsterWeekends$Home") 0 C.2.2.2.1 (lw_O q740 q743 q741 q753 q754 q106 q755) rfl rfl rfl q762 (by decide +kernel) ⟨Nat.le_of_ble_eq_true rfl, Nat.le_of_ble_eq_true rfl⟩) (n_preV C hP hS [] rfl (by decide) rfl (n_recvH C hS hq20 rfl)) rfl rfl hl.1 rfl (lv_room (Nat.le_of_ble_eq_true rfl)) dX0_homeOf_61 ⟨Nat.le_refl _, Nat.le_refl _⟩) xW_av rfl rfl rfl (fun H locs hP hS => ?_)
        obtain rfl := Option.some.inj hE
        exact hret _ _ _ _ dX0_homeOf_64 hP hS
      have hE := it_f c19 hE
      by_cases c22 : (hk (p1).toNatClampNeg) = 5
      · have hE := it_t c22 hE
        have hq23 := hq6
        rw [c22] at hq23
        obtain ⟨r24, hr24, hE⟩ := it_b hE
        refine n_after [] C.2.2.2.2.2.1 C.2.2.2.2.2.2.2.1 hP hS (va_runU (As := []) (rest := []) ⟨C.1, C.2.1, hml, C.2.2.1, C.2.2.2.1⟩ (metC_Dog_kind_5 l G ad pl  q6 p1 (hb (p1).toNatClampNeg) hq23 r24 hr24) (va_cwO (C := RX17) (owner := "HamsterWeekends$Home") 0 C.2.2.2.1 (lw_O q740 q743 q741 q750 q751 q107 q752) rfl rfl rfl q762 (by decide +kernel) ⟨Nat.le_of_ble_eq_true rfl, Nat.le_of_ble_eq_true rfl⟩) (n_preV C hP hS [] rfl (by decide) rfl (n_recvH C hS hq23 rfl)) rfl rfl hl.1 rfl (lv_room (Nat.le_of_ble_eq_true rfl)) dX0_homeOf_61 ⟨Nat.le_refl _, Nat.le_refl _⟩) xW_av rfl rfl rfl (fun H locs hP hS => ?_)
        obtain rfl := Option.some.inj hE
        exact hret _ _ _ _ dX0_homeOf_64 hP hS
      have hE := it_f c22 hE
      by_cases c25 : (hk (p1).toNatClampNeg) = 6
      · have hE := it_t c25 hE
        have hq26 := hq6
        rw [c25] at hq26
        obtain ⟨r27, hr27, hE⟩ := it_b hE
        refine n_after [] C.2.2.2.2.2.1 C.2.2.2.2.2.2.2.1 hP hS (va_runU (As := []) (rest := []) ⟨C.1, C.2.1, hml, C.2.2.1, C.2.2.2.1⟩ (metC_Bus_kind_6 l G ad pl  q6 p1 (hb (p1).toNatClampNeg) hq26 r27 hr27) (va_cwO (C := RX18) (owner := "HamsterWeekends$Home") 0 C.2.2.2.1 (lw_O q740 q743 q741 q744 q745 q108 q746) rfl rfl rfl q762 (by decide +kernel) ⟨Nat.le_of_ble_eq_true rfl, Nat.le_of_ble_eq_true rfl⟩) (n_preV C hP hS [] rfl (by decide) rfl (n_recvH C hS hq26 rfl)) rfl rfl hl.1 rfl (lv_room (Nat.le_of_ble_eq_true rfl)) dX0_homeOf_61 ⟨Nat.le_refl _, Nat.le_refl _⟩) xW_av rfl rfl rfl (fun H locs hP hS => ?_)
        obtain rfl := Option.some.inj hE
        exact hret _ _ _ _ dX0_homeOf_64 hP hS
      have hE := it_f c25 hE
      exact it_n hE
    have hE := it_f c3 hE
    by_cases c28 : p2 = 1
    · have hE := it_t c28 hE
      refine lv_tableIn (tgt := 65) C.1 C.2.1 dX0_homeOf_17 (by rw [c28]; decide) (by rw [c28]; decide) (by rw [c28]; rfl) (by decide) ?_
      refine lv_aload_n C.1 C.2.1 dX0_homeOf_65 rfl (lv_at hl 0 rfl) ?_
      refine xWg_0_6 q244 C hP dX0_homeOf_66 ?_
      refine xWg_18_5 q193 C hP dX0_homeOf_69 ?_
      refine lv_iload_n C.1 C.2.1 dX0_homeOf_72 rfl (lv_at hl 1 rfl) ?_
      obtain ⟨g29, hE⟩ := it_g hE
      obtain ⟨g30, hE⟩ := it_g hE
      obtain ⟨q31, hq310, hq31, hq317⟩ := hom _ g30
      refine xWl_21 (v := some q31) C hP (gi_in g29) hq310 dX0_homeOf_73 ?_
      refine h_by7 C hS hq317 hq31 q679 dX0_homeOf_74 ?_
      obtain rfl := Option.some.inj hE
      exact hret _ _ _ _ dX0_homeOf_77 hP hS
    have hE := it_f c28 hE
    by_cases c32 : p2 = 2
    · have hE := it_t c32 hE
      refine lv_tableIn (tgt := 78) C.1 C.2.1 dX0_homeOf_17 (by rw [c32]; decide) (by rw [c32]; decide) (by rw [c32]; rfl) (by decide) ?_
      refine lv_aload_n C.1 C.2.1 dX0_homeOf_78 rfl (lv_at hl 0 rfl) ?_
      refine xWg_0_6 q244 C hP dX0_homeOf_79 ?_
      refine xWg_18_6 q196 C hP dX0_homeOf_82 ?_
      refine lv_iload_n C.1 C.2.1 dX0_homeOf_85 rfl (lv_at hl 1 rfl) ?_
      obtain ⟨g33, hE⟩ := it_g hE
      refine xWl_22 (v := (v_marks (p1).toNatClampNeg)) C hP (gi_in g33) rfl dX0_homeOf_86 ?_
      obtain rfl := Option.some.inj hE
      exact hret _ _ _ _ dX0_homeOf_87 hP hS
    have hE := it_f c32 hE
    by_cases c34 : p2 = 3
    · have hE := it_t c34 hE
      refine lv_tableIn (tgt := 88) C.1 C.2.1 dX0_homeOf_17 (by rw [c34]; decide) (by rw [c34]; decide) (by rw [c34]; rfl) (by decide) ?_
      refine lv_aload_n C.1 C.2.1 dX0_homeOf_88 rfl (lv_at hl 0 rfl) ?_
      refine xWg_0_6 q244 C hP dX0_homeOf_89 ?_
      refine xWg_18_8 q202 C hP dX0_homeOf_92 ?_
      refine lv_iload_n C.1 C.2.1 dX0_homeOf_95 rfl (lv_at hl 1 rfl) ?_
      obtain ⟨g35, hE⟩ := it_g hE
      refine xWl_24 (v := (v_allergic (p1).toNatClampNeg)) C hP (gi_in g35) rfl dX0_homeOf_96 ?_
      refine lv_if_eq (tgt := 104) C.1 C.2.1 dX0_homeOf_97 (by decide) (fun c36 => ?_) (fun c36 => ?_)
      · have hE := it_t c36 hE
        refine lv_iconst (v := 0) C.1 C.2.1 dX0_homeOf_104 (by decide) ?_
        obtain rfl := Option.some.inj hE
        exact hret _ _ _ _ dX0_homeOf_105 hP hS
      · have hE := it_f c36 hE
        refine lv_iconst (v := 1) C.1 C.2.1 dX0_homeOf_100 (by decide) ?_
        refine lv_goto (tgt := 105) C.1 C.2.1 dX0_homeOf_101 (by decide) ?_
        obtain rfl := Option.some.inj hE
        exact hret _ _ _ _ dX0_homeOf_105 hP hS
    have hE := it_f c34 hE
    by_cases c37 : p2 = 4
    · have hE := it_t c37 hE
      refine lv_tableIn (tgt := 106) C.1 C.2.1 dX0_homeOf_17 (by rw [c37]; decide) (by rw [c37]; decide) (by rw [c37]; rfl) (by decide) ?_
      refine lv_aload_n C.1 C.2.1 dX0_homeOf_106 rfl (lv_at hl 0 rfl) ?_
      refine xWg_0_6 q244 C hP dX0_homeOf_107 ?_
      refine xWg_18_7 q199 C hP dX0_homeOf_110 ?_
      refine lv_iload_n C.1 C.2.1 dX0_homeOf_113 rfl (lv_at hl 1 rfl) ?_
      obtain ⟨g38, hE⟩ := it_g hE
      refine xWl_23 (v := (v_had (p1).toNatClampNeg)) C hP (gi_in g38) rfl dX0_homeOf_114 ?_
      obtain rfl := Option.some.inj hE
      exact hret _ _ _ _ dX0_homeOf_115 hP hS
    have hE := it_f c37 hE
    refine lv_tableOut (tgt := 116) C.1 C.2.1 dX0_homeOf_17 (ts_e (ts_s (ts_s (ts_s (ts_s (ts_s (ts_0 0) c3 rfl rfl) c28 rfl rfl) c32 rfl rfl) c34 rfl rfl) c37 rfl rfl) rfl) (by decide) ?_
    refine lv_aload_n C.1 C.2.1 dX0_homeOf_116 rfl (lv_at hl 0 rfl) ?_
    obtain ⟨r39, hr39, hE⟩ := it_b hE
    refine n_afterS C.2.2.2.2.2.2.2.1 hS (va_runV (As := []) (rest := []) ⟨C.1, C.2.1, hml, C.2.2.1, C.2.2.2.1⟩ (metC_HW_beyond l G ad pl _ _ _ _ _ _ _ _ _ _ _ _ _ _ _ _ _ _ _ _ _ _ _ _ _ _ _ _ _ _ _ _ _ _ _ _ _ _ _ _ _ _ _ _ _ _ _   r39 hr39) (cwV (C := RX0) 0 C.2.2.2.1 (lw_V q736 q738 qs4 q80 q739) rfl rfl rfl (by decide +kernel) ⟨Nat.le_of_ble_eq_true rfl, Nat.le_of_ble_eq_true rfl⟩) (n_preV0 C hP hS (va_recv C.2.2.2.2.1 hP (ci := 16) (q0 := 0) rfl rfl)) rfl rfl hl.1 rfl (lv_room (Nat.le_of_ble_eq_true rfl)) dX0_homeOf_117 ⟨Nat.le_refl _, Nat.le_refl _⟩) (fun H locs hP hS => ?_)
    obtain rfl := Option.some.inj hE
    exact hret _ _ _ _ dX0_homeOf_120 hP hS
  · have hE := it_t c2 hE
    refine lv_aload_n C.1 C.2.1 dX0_homeOf_11 rfl (lv_at hl 0 rfl) ?_
    obtain ⟨r40, hr40, hE⟩ := it_b hE
    refine n_afterS C.2.2.2.2.2.2.2.1 hS (va_runV (As := []) (rest := []) ⟨C.1, C.2.1, hml, C.2.2.1, C.2.2.2.1⟩ (metC_HW_beyond l G ad pl _ _ _ _ _ _ _ _ _ _ _ _ _ _ _ _ _ _ _ _ _ _ _ _ _ _ _ _ _ _ _ _ _ _ _ _ _ _ _ _ _ _ _ _ _ _ _   r40 hr40) (cwV (C := RX0) 0 C.2.2.2.1 (lw_V q736 q738 qs4 q80 q739) rfl rfl rfl (by decide +kernel) ⟨Nat.le_of_ble_eq_true rfl, Nat.le_of_ble_eq_true rfl⟩) (n_preV0 C hP hS (va_recv C.2.2.2.2.1 hP (ci := 16) (q0 := 0) rfl rfl)) rfl rfl hl.1 rfl (lv_room (Nat.le_of_ble_eq_true rfl)) dX0_homeOf_12 ⟨Nat.le_refl _, Nat.le_refl _⟩) (fun H locs hP hS => ?_)
    obtain rfl := Option.some.inj hE
    exact hret _ _ _ _ dX0_homeOf_15 hP hS
def sC_HW_goesRow_h33 (x1 : Int32) (v_noticedBy : Int32) (v_tasked : Nat → Int32) (v_told : Nat → Int32) (v_many : Int32) (v_homes : Nat → Option Nat) (hk : Nat → Nat) (hb : Nat → Int32) : Nat → Int32 → Int32 → Int32 → Int32 → Int32 → Int32 → Int32 → Option (Int32 × Int32 × Int32 × Int32 × Int32 × Int32)
  | 0, _, _, _, _, _, _, _ => none
  | fuel + 1, x2, v_died, v_leastWeight, v_noticed, v_tweight, v_tfright, v_tage =>
    if x1 ≤ x2 then
      some (v_died, v_leastWeight, v_noticed, v_tweight, v_tfright, v_tage)
    else
      if gi x2 40 then
      (sC_Room_of v_homes (v_told (x2).toNatClampNeg)).bind fun r3403 =>
      if (v_told (x2).toNatClampNeg) = (-1) then
        (sC_Pet_week_N v_tweight v_tfright v_tage v_tasked).bind fun r3407 =>
        (sC_Pet_dies r3407.1 r3407.2.1 r3407.2.2 v_tasked).bind fun r3408 =>
        @Option.bind (Int32) _ (
          if r3408 = (-1) then
            some 0
          else
            some 1) fun u3410 =>
        @Option.bind (Int32) _ (
          if u3410 = 0 then
            some (imin v_leastWeight r3407.1)
          else
            some 0) fun u3412 =>
        @Option.bind (Int32 × Int32 × Int32 × Int32 × Int32) _ (
          if u3410 = 0 then
            some (v_died, v_noticed, r3407.1, r3407.2.1, r3407.2.2)
          else
            @Option.bind (Int32) _ (
              if (iabs (r3407.1 - 80)) < v_noticedBy then
                some 0
              else
                some 1) fun u3416 =>
            (sC_Pet_replaced r3407.1 r3407.2.1 r3407.2.2).bind fun r3417 =>
            some ((v_died + 1), (v_noticed + u3416), r3417.1, r3417.2.1, r3417.2.2)) fun u3414 =>
        sC_HW_goesRow_h33 x1 v_noticedBy v_tasked v_told v_many v_homes hk hb fuel (x2 + 1) u3414.1 u3412 u3414.2.1 u3414.2.2.1 u3414.2.2.2.1 u3414.2.2.2.2
      else
      if gm (v_told (x2).toNatClampNeg) v_many then
      (sC_Pet_week_H v_tweight v_tfright v_tage v_tasked (hk ((v_told (x2).toNatClampNeg)).toNatClampNeg) (v_told (x2).toNatClampNeg) (hb ((v_told (x2).toNatClampNeg)).toNatClampNeg)).bind fun r3418 =>
      (sC_Pet_dies r3418.1 r3418.2.1 r3418.2.2 v_tasked).bind fun r3419 =>
      @Option.bind (Int32) _ (
        if r3419 = (-1) then
          some 0
        else
          some 1) fun u3421 =>
      @Option.bind (Int32) _ (
        if u3421 = 0 then
          some (imin v_leastWeight r3418.1)
        else
          some 0) fun u3423 =>
      @Option.bind (Int32 × Int32 × Int32 × Int32 × Int32) _ (
        if u3421 = 0 then
          some (v_died, v_noticed, r3418.1, r3418.2.1, r3418.2.2)
        else
          @Option.bind (Int32) _ (
            if (iabs (r3418.1 - 80)) < v_noticedBy then
              some 0
            else
              some 1) fun u3427 =>
          (sC_Pet_replaced r3418.1 r3418.2.1 r3418.2.2).bind fun r3428 =>
          some ((v_died + 1), (v_noticed + u3427), r3428.1, r3428.2.1, r3428.2.2)) fun u3425 =>
      sC_HW_goesRow_h33 x1 v_noticedBy v_tasked v_told v_many v_homes hk hb fuel (x2 + 1) u3425.1 u3423 u3425.2.1 u3425.2.2.1 u3425.2.2.2.1 u3425.2.2.2.2
      else none
      else none
def sC_HW_goesRow (v_died : Int32) (v_leastWeight : Int32) (v_noticedBy : Int32) (v_noticed : Int32) (v_tweight : Int32) (v_tfright : Int32) (v_tage : Int32) (v_tasked : Nat → Int32) (v_told : Nat → Int32) (v_many : Int32) (v_homes : Nat → Option Nat) (hk : Nat → Nat) (hb : Nat → Int32) (p1 : Int32) : Option (Int32 × Int32 × Int32 × Int32 × Int32 × Int32) :=
  @Option.bind (Int32) _ (
    if p1 = 0 then
      some v_tweight
    else
      some 400) fun u2 =>
  (sC_HW_goesRow_h33 p1 v_noticedBy v_tasked v_told v_many v_homes hk hb 2000 0 0 u2 0 v_tweight v_tfright v_tage).bind fun u3 =>
  some (u3.1, u3.2.1, u3.2.2.1, u3.2.2.2.1, u3.2.2.2.2.1, u3.2.2.2.2.2)
set_option maxHeartbeats 4000000 in
theorem wC_HW_goesRow_h33 {p : Program} {l : Launch} {e : Env} {s : State} {m : MethodId} {args : Array Value} {below : List Frame} {meth : Method} {c : Code} {Q : State → Prop} {G : kG} {ad : Nat → Nat} {pl : va_W} {hk : Nat → Nat} {hb : Nat → Int32} {v_latestFault : Int32} {v_noticedBy : Int32} {v_orderDied : Int32} {v_orderLeast : Int32} {v_imaged : Option Nat} {v_shelves : Nat → Option Nat} {v_refusals : Nat → Int32} {v_ran : Int32} {v_bodies : Nat → Int32} {v_tasked : Nat → Int32} {v_told : Nat → Int32} {v_bestRow : Nat → Int32} {v_weight_a1 : Int32} {v_fright_a1 : Int32} {v_age_a1 : Int32} {v_asked_a1 : Nat → Int32} {v_weight_a2 : Int32} {v_fright_a2 : Int32} {v_age_a2 : Int32} {v_asked_a2 : Nat → Int32} {v_weight_a3 : Int32} {v_fright_a3 : Int32} {v_age_a3 : Int32} {v_asked_a3 : Nat → Int32} {v_weight_a4 : Int32} {v_fright_a4 : Int32} {v_age_a4 : Int32} {v_asked_a4 : Nat → Int32} {v_many : Int32} {v_pets : Int32} {v_last : Int32} {v_seed : Int32} {v_weight : Int32} {v_fright : Int32} {v_age : Int32} {v_asked : Nat → Int32} {v_homes : Nat → Option Nat} {v_marks : Nat → Int32} {v_had : Nat → Int32} {v_allergic : Nat → Int32} {v_deaths : Nat → Int32} (C : nC p s m args c cX0_goesRow RX0 G (xWV ad) pl (nA (xWV ad))) (hml : c.maxLocals = 4)  (hom : homOK v_homes v_many hk hb pl) (x1 : Int32) (res : Int32 × Int32 × Int32 × Int32 × Int32 × Int32) :
    ∀ (fuel : Nat) (x2 : Int32) (v_died : Int32) (v_leastWeight : Int32) (v_noticed : Int32) (v_tweight : Int32) (v_tfright : Int32) (v_tage : Int32) (H : Heap) (locs : List Loc) (ls : Array Slot), sC_HW_goesRow_h33 x1 v_noticedBy v_tasked v_told v_many v_homes hk hb fuel x2 v_died v_leastWeight v_noticed v_tweight v_tfright v_tage = some res → va_P G.1 vwCl (xW G.2 ad v_latestFault v_died v_leastWeight v_noticedBy v_noticed v_orderDied v_orderLeast v_imaged v_shelves v_refusals v_ran v_bodies v_tweight v_tfright v_tage v_tasked v_told v_bestRow v_weight_a1 v_fright_a1 v_age_a1 v_asked_a1 v_weight_a2 v_fright_a2 v_age_a2 v_asked_a2 v_weight_a3 v_fright_a3 v_age_a3 v_asked_a3 v_weight_a4 v_fright_a4 v_age_a4 v_asked_a4 v_many v_pets v_last v_seed v_weight v_fright v_age v_asked v_homes v_marks v_had v_allergic v_deaths) H → va_S (nA (xWV ad)) s.heap H locs → lv_has ls 4 [(0, .ref (ad 0)), (1, .int x1), (2, .int x2)] → (∀ (H : Heap) (locs : List Loc) (ls : Array Slot), va_P G.1 vwCl (xW G.2 ad v_latestFault res.1 res.2.1 v_noticedBy res.2.2.1 v_orderDied v_orderLeast v_imaged v_shelves v_refusals v_ran v_bodies res.2.2.2.1 res.2.2.2.2.1 res.2.2.2.2.2 v_tasked v_told v_bestRow v_weight_a1 v_fright_a1 v_age_a1 v_asked_a1 v_weight_a2 v_fright_a2 v_age_a2 v_asked_a2 v_weight_a3 v_fright_a3 v_age_a3 v_asked_a3 v_weight_a4 v_fright_a4 v_age_a4 v_asked_a4 v_many v_pets v_last v_seed v_weight v_fright v_age v_asked v_homes v_marks v_had v_allergic v_deaths) H → va_S (nA (xWV ad)) s.heap H locs → lv_has ls 4 [] → W p l e ({ frames := 5, cells := 0, slots := 0, locals := 106 } : Room) s m args below meth c H locs 0 0 Q (F0 m 162 ls [])) → W p l e ({ frames := 5, cells := 0, slots := 0, locals := 106 } : Room) s m args below meth c H locs 0 0 Q (F0 m 33 ls []) := by
  intro fuel
  induction fuel with
  | zero =>
    intro x2 v_died v_leastWeight v_noticed v_tweight v_tfright v_tage H locs ls hE
    exact it_n hE
  | succ fuel ih =>
    intro x2 v_died v_leastWeight v_noticed v_tweight v_tfright v_tage H locs ls hE hP hS hl hX
    rw [sC_HW_goesRow_h33] at hE
    refine lv_iload_n C.1 C.2.1 dX0_goesRow_33 rfl (lv_at hl 2 rfl) ?_
    refine lv_iload_n C.1 C.2.1 dX0_goesRow_34 rfl (lv_at hl 1 rfl) ?_
    refine lv_icmp_ge (tgt := 162) C.1 C.2.1 dX0_goesRow_35 (by decide) (fun c3401 => ?_) (fun c3401 => ?_)
    · have hE := it_t c3401 hE
      obtain rfl := Option.some.inj hE
      exact hX H locs ls hP hS (lv_sub hl [] rfl)
    · have hE := it_f c3401 hE
      refine lv_aload_n C.1 C.2.1 dX0_goesRow_38 rfl (lv_at hl 0 rfl) ?_
      refine xWg_0_3 q241 C hP dX0_goesRow_39 ?_
      refine lv_aload_n C.1 C.2.1 dX0_goesRow_42 rfl (lv_at hl 0 rfl) ?_
      refine xWg_0_6 q244 C hP dX0_goesRow_43 ?_
      refine lv_aload_n C.1 C.2.1 dX0_goesRow_46 rfl (lv_at hl 0 rfl) ?_
      refine xWg_0_4 q242 C hP dX0_goesRow_47 ?_
      refine lv_iload_n C.1 C.2.1 dX0_goesRow_50 rfl (lv_at hl 2 rfl) ?_
      obtain ⟨g3402, hE⟩ := it_g hE
      refine xWl_7 (v := (v_told (x2).toNatClampNeg)) C hP (gi_in g3402) rfl dX0_goesRow_51 ?_
      obtain ⟨r3403, hr3403, hE⟩ := it_b hE
      refine n_after [18, 19, 20, 21, 22, 23, 24, 25] C.2.2.2.2.2.1 C.2.2.2.2.2.2.2.1 hP hS (va_runV (As := [.int (v_told (x2).toNatClampNeg)]) (rest := [.ref (ad 5)]) ⟨C.1, C.2.1, hml, C.2.2.1, C.2.2.2.1⟩ (metC_Room_of l G (fun i => ad (18 + i)) pl _ _ _ _ _ _ _ _ _ _ _ _ _ (v_told (x2).toNatClampNeg)  r3403 hr3403) (cwV (C := RX3) 1 C.2.2.2.1 (lw_V q1081 q981 q982 q83 q983) rfl rfl rfl (by decide +kernel) ⟨Nat.le_of_ble_eq_true rfl, Nat.le_of_ble_eq_true rfl⟩) (n_preV C hP hS [18, 19, 20, 21, 22, 23, 24, 25] sub_xW_rW_18 (by decide) rfl (va_recv C.2.2.2.2.1 hP (ci := 12) (q0 := 18) rfl rfl)) rfl rfl hl.1 rfl (lv_room (Nat.le_of_ble_eq_true rfl)) dX0_goesRow_52 ⟨Nat.le_refl _, Nat.le_refl _⟩) xW_av rfl rfl mg_xW_rW_18 (fun H locs hP hS => ?_)
      by_cases c3404 : (v_told (x2).toNatClampNeg) = (-1)
      · have hE := it_t c3404 hE
        obtain rfl := of_none hr3403 c3404
        obtain ⟨r3407, hr3407, hE⟩ := it_b hE
        refine n_after [5, 6] C.2.2.2.2.2.1 C.2.2.2.2.2.2.2.1 hP hS (va_runV (As := [.null]) (rest := []) ⟨C.1, C.2.1, hml, C.2.2.1, C.2.2.2.1⟩ (metC_Pet_week_N l G (fun i => ad (5 + i)) pl _ _ _ _   r3407 hr3407) (cwV (C := RX2) 1 C.2.2.2.1 (lw_V q1082 q985 q986 q82 q987) rfl rfl rfl (by decide +kernel) ⟨Nat.le_of_ble_eq_true rfl, Nat.le_of_ble_eq_true rfl⟩) (n_preV C hP hS [5, 6] sub_xW_pW_5 (by decide) rfl (va_recv C.2.2.2.2.1 hP (ci := 11) (q0 := 5) rfl rfl)) rfl rfl hl.1 rfl (lv_room (Nat.le_of_ble_eq_true rfl)) dX0_goesRow_55 ⟨Nat.le_refl _, Nat.le_refl _⟩) xW_av rfl rfl mg_xW_pW_5 (fun H locs hP hS => ?_)
        refine lv_aload_n C.1 C.2.1 dX0_goesRow_58 rfl (lv_at hl 0 rfl) ?_
        refine xWg_0_3 q241 C hP dX0_goesRow_59 ?_
        obtain ⟨r3408, hr3408, hE⟩ := it_b hE
        refine n_after [5, 6] C.2.2.2.2.2.1 C.2.2.2.2.2.2.2.1 hP hS (va_runV (As := []) (rest := []) ⟨C.1, C.2.1, hml, C.2.2.1, C.2.2.2.1⟩ (metC_Pet_dies l G (fun i => ad (5 + i)) pl _ _ _ _   r3408 hr3408) (cwV (C := RX2) 0 C.2.2.2.1 (lw_V q1083 q1024 q1025 q82 q1026) rfl rfl rfl (by decide +kernel) ⟨Nat.le_of_ble_eq_true rfl, Nat.le_of_ble_eq_true rfl⟩) (n_preV C hP hS [5, 6] sub_xW_pW_5 (by decide) rfl (va_recv C.2.2.2.2.1 hP (ci := 11) (q0 := 5) rfl rfl)) rfl rfl hl.1 rfl (lv_room (Nat.le_of_ble_eq_true rfl)) dX0_goesRow_62 ⟨Nat.le_refl _, Nat.le_refl _⟩) xW_av rfl rfl mg_xW_pW_5 (fun H locs hP hS => ?_)
        refine lv_iconst (v := (-1)) C.1 C.2.1 dX0_goesRow_65 (by decide) ?_
        obtain ⟨u3410, hR, hE⟩ := it_b hE
        have hJ74u3410 : ∀ (H : Heap) (locs : List Loc) (ls : Array Slot), va_P G.1 vwCl (xW G.2 ad v_latestFault v_died v_leastWeight v_noticedBy v_noticed v_orderDied v_orderLeast v_imaged v_shelves v_refusals v_ran v_bodies r3407.1 r3407.2.1 r3407.2.2 v_tasked v_told v_bestRow v_weight_a1 v_fright_a1 v_age_a1 v_asked_a1 v_weight_a2 v_fright_a2 v_age_a2 v_asked_a2 v_weight_a3 v_fright_a3 v_age_a3 v_asked_a3 v_weight_a4 v_fright_a4 v_age_a4 v_asked_a4 v_many v_pets v_last v_seed v_weight v_fright v_age v_asked v_homes v_marks v_had v_allergic v_deaths) H → va_S (nA (xWV ad)) s.heap H locs → lv_has ls 4 [(0, .ref (ad 0)), (1, .int x1), (2, .int x2)] → W p l e ({ frames := 5, cells := 0, slots := 0, locals := 106 } : Room) s m args below meth c H locs 0 0 Q (F0 m 74 ls [.int u3410]) := by
          intro H locs ls hP hS hl
          refine lv_istore_n (lv' := [(3, .int u3410), (0, .ref (ad 0)), (1, .int x1), (2, .int x2)]) C.1 C.2.1 dX0_goesRow_74 rfl hl (by decide) rfl (fun ls hl => ?_)
          refine lv_aload_n C.1 C.2.1 dX0_goesRow_75 rfl (lv_at hl 1 rfl) ?_
          refine lv_iload_n C.1 C.2.1 dX0_goesRow_76 rfl (lv_at hl 0 rfl) ?_
          obtain ⟨u3412, hR, hE⟩ := it_b hE
          have hJ98u3412 : ∀ (H : Heap) (locs : List Loc) (ls : Array Slot), va_P G.1 vwCl (xW G.2 ad v_latestFault v_died v_leastWeight v_noticedBy v_noticed v_orderDied v_orderLeast v_imaged v_shelves v_refusals v_ran v_bodies r3407.1 r3407.2.1 r3407.2.2 v_tasked v_told v_bestRow v_weight_a1 v_fright_a1 v_age_a1 v_asked_a1 v_weight_a2 v_fright_a2 v_age_a2 v_asked_a2 v_weight_a3 v_fright_a3 v_age_a3 v_asked_a3 v_weight_a4 v_fright_a4 v_age_a4 v_asked_a4 v_many v_pets v_last v_seed v_weight v_fright v_age v_asked v_homes v_marks v_had v_allergic v_deaths) H → va_S (nA (xWV ad)) s.heap H locs → lv_has ls 4 [(0, .ref (ad 0)), (1, .int x1), (2, .int x2), (3, .int u3410)] → W p l e ({ frames := 5, cells := 0, slots := 0, locals := 106 } : Room) s m args below meth c H locs 0 0 Q (F0 m 98 ls [.int u3412, .ref (ad 0)]) := by
            intro H locs ls hP hS hl
            refine xWp_0_10 q248 C hP hS dX0_goesRow_98 (fun H locs hP hS => ?_)
            refine lv_iload_n C.1 C.2.1 dX0_goesRow_101 rfl (lv_at hl 3 rfl) ?_
            obtain ⟨u3414, hR, hE⟩ := it_b hE
            have hJ156u3414 : ∀ (H : Heap) (locs : List Loc) (ls : Array Slot), va_P G.1 vwCl (xW G.2 ad v_latestFault u3414.1 u3412 v_noticedBy u3414.2.1 v_orderDied v_orderLeast v_imaged v_shelves v_refusals v_ran v_bodies u3414.2.2.1 u3414.2.2.2.1 u3414.2.2.2.2 v_tasked v_told v_bestRow v_weight_a1 v_fright_a1 v_age_a1 v_asked_a1 v_weight_a2 v_fright_a2 v_age_a2 v_asked_a2 v_weight_a3 v_fright_a3 v_age_a3 v_asked_a3 v_weight_a4 v_fright_a4 v_age_a4 v_asked_a4 v_many v_pets v_last v_seed v_weight v_fright v_age v_asked v_homes v_marks v_had v_allergic v_deaths) H → va_S (nA (xWV ad)) s.heap H locs → lv_has ls 4 [(0, .ref (ad 0)), (1, .int x1), (2, .int x2)] → W p l e ({ frames := 5, cells := 0, slots := 0, locals := 106 } : Room) s m args below meth c H locs 0 0 Q (F0 m 156 ls []) := by
              intro H locs ls hP hS hl
              refine lv_iinc (v := (x2 + 1)) (lv' := [(2, .int (x2 + 1)), (0, .ref (ad 0)), (1, .int x1)]) C.1 C.2.1 dX0_goesRow_156 hl (k := 2) rfl rfl (by decide) rfl (fun ls hl => ?_)
              refine lv_goto (tgt := 33) C.1 C.2.1 dX0_goesRow_159 (by decide) ?_
              exact ih (x2 + 1) u3414.1 u3412 u3414.2.1 u3414.2.2.1 u3414.2.2.2.1 u3414.2.2.2.2 _ _ _ hE hP hS (lv_sub hl [1, 2, 0] rfl) hX
            have hE := hR
            refine lv_if_eq (tgt := 156) C.1 C.2.1 dX0_goesRow_102 (by decide) (fun c3413 => ?_) (fun c3413 => ?_)
            · have hE := it_t c3413 hE
              obtain rfl := Option.some.inj hE
              exact hJ156u3414 H locs ls hP hS (lv_sub hl [0, 1, 2] rfl)
            · have hE := it_f c3413 hE
              refine lv_aload_n C.1 C.2.1 dX0_goesRow_105 rfl (lv_at hl 0 rfl) ?_
              refine lv_dup C.1 C.2.1 dX0_goesRow_106 rfl ?_
              refine xWg_0_9 q247 C hP dX0_goesRow_107 ?_
              refine lv_iconst (v := 1) C.1 C.2.1 dX0_goesRow_110 (by decide) ?_
              refine lv_iadd C.1 C.2.1 dX0_goesRow_111 ?_
              refine xWp_0_9 q247 C hP hS dX0_goesRow_112 (fun H locs hP hS => ?_)
              refine lv_aload_n C.1 C.2.1 dX0_goesRow_115 rfl (lv_at hl 0 rfl) ?_
              refine lv_dup C.1 C.2.1 dX0_goesRow_116 rfl ?_
              refine xWg_0_12 q250 C hP dX0_goesRow_117 ?_
              refine lv_aload_n C.1 C.2.1 dX0_goesRow_120 rfl (lv_at hl 0 rfl) ?_
              refine xWg_0_3 q241 C hP dX0_goesRow_121 ?_
              refine xWg_5_0 q149 C hP dX0_goesRow_124 ?_
              refine lv_bipush (v := 80) C.1 C.2.1 dX0_goesRow_127 (by decide) ?_
              refine lv_isub C.1 C.2.1 dX0_goesRow_129 ?_
              refine va_mabs C.1 C.2.1 (by rw [hml]; exact hl.1.symm) C.2.2.1 (C.2.2.2.1 _ q1085) (C.2.2.2.1 _ q1086) (C.2.2.2.1 _ q101) (C.2.2.2.1 _ q1087) (Nat.le_of_ble_eq_true rfl) (Nat.le_of_ble_eq_true rfl) (Nat.zero_le _) (Nat.zero_le _) dX0_goesRow_130 ?_
              refine lv_aload_n C.1 C.2.1 dX0_goesRow_133 rfl (lv_at hl 0 rfl) ?_
              refine xWg_0_11 q249 C hP dX0_goesRow_134 ?_
              obtain ⟨u3416, hR, hE⟩ := it_b hE
              have hJ145u3416 : ∀ (H : Heap) (locs : List Loc) (ls : Array Slot), va_P G.1 vwCl (xW G.2 ad v_latestFault (v_died + 1) u3412 v_noticedBy v_noticed v_orderDied v_orderLeast v_imaged v_shelves v_refusals v_ran v_bodies r3407.1 r3407.2.1 r3407.2.2 v_tasked v_told v_bestRow v_weight_a1 v_fright_a1 v_age_a1 v_asked_a1 v_weight_a2 v_fright_a2 v_age_a2 v_asked_a2 v_weight_a3 v_fright_a3 v_age_a3 v_asked_a3 v_weight_a4 v_fright_a4 v_age_a4 v_asked_a4 v_many v_pets v_last v_seed v_weight v_fright v_age v_asked v_homes v_marks v_had v_allergic v_deaths) H → va_S (nA (xWV ad)) s.heap H locs → lv_has ls 4 [(0, .ref (ad 0)), (1, .int x1), (2, .int x2)] → W p l e ({ frames := 5, cells := 0, slots := 0, locals := 106 } : Room) s m args below meth c H locs 0 0 Q (F0 m 145 ls [.int u3416, .int v_noticed, .ref (ad 0)]) := by
                intro H locs ls hP hS hl
                refine lv_iadd C.1 C.2.1 dX0_goesRow_145 ?_
                refine xWp_0_12 q250 C hP hS dX0_goesRow_146 (fun H locs hP hS => ?_)
                refine lv_aload_n C.1 C.2.1 dX0_goesRow_149 rfl (lv_at hl 0 rfl) ?_
                refine xWg_0_3 q241 C hP dX0_goesRow_150 ?_
                obtain ⟨r3417, hr3417, hE⟩ := it_b hE
                refine n_after [5, 6] C.2.2.2.2.2.1 C.2.2.2.2.2.2.2.1 hP hS (va_runV (As := []) (rest := []) ⟨C.1, C.2.1, hml, C.2.2.1, C.2.2.2.1⟩ (metC_Pet_replaced l G (fun i => ad (5 + i)) pl _ _ _ _   r3417 hr3417) (cwV (C := RX2) 0 C.2.2.2.1 (lw_V q1088 q1028 q1029 q82 q1030) rfl rfl rfl (by decide +kernel) ⟨Nat.le_of_ble_eq_true rfl, Nat.le_of_ble_eq_true rfl⟩) (n_preV C hP hS [5, 6] sub_xW_pW_5 (by decide) rfl (va_recv C.2.2.2.2.1 hP (ci := 11) (q0 := 5) rfl rfl)) rfl rfl hl.1 rfl (lv_room (Nat.le_of_ble_eq_true rfl)) dX0_goesRow_153 ⟨Nat.le_refl _, Nat.le_refl _⟩) xW_av rfl rfl mg_xW_pW_5 (fun H locs hP hS => ?_)
                obtain rfl := Option.some.inj hE
                exact hJ156u3414 H locs ls hP hS (lv_sub hl [0, 1, 2] rfl)
              have hE := hR
              refine lv_icmp_lt (tgt := 144) C.1 C.2.1 dX0_goesRow_137 (by decide) (fun c3415 => ?_) (fun c3415 => ?_)
              · have hE := it_t c3415 hE
                refine lv_iconst (v := 0) C.1 C.2.1 dX0_goesRow_144 (by decide) ?_
                obtain rfl := Option.some.inj hE
                exact hJ145u3416 H locs ls hP hS (lv_sub hl [0, 1, 2] rfl)
              · have hE := it_f c3415 hE
                refine lv_iconst (v := 1) C.1 C.2.1 dX0_goesRow_140 (by decide) ?_
                refine lv_goto (tgt := 145) C.1 C.2.1 dX0_goesRow_141 (by decide) ?_
                obtain rfl := Option.some.inj hE
                exact hJ145u3416 H locs ls hP hS (lv_sub hl [0, 1, 2] rfl)
          have hE := hR
          refine lv_if_eq (tgt := 84) C.1 C.2.1 dX0_goesRow_77 (by decide) (fun c3411 => ?_) (fun c3411 => ?_)
          · have hE := it_t c3411 hE
            refine lv_aload_n C.1 C.2.1 dX0_goesRow_84 rfl (lv_at hl 1 rfl) ?_
            refine xWg_0_10 q248 C hP dX0_goesRow_85 ?_
            refine lv_aload_n C.1 C.2.1 dX0_goesRow_88 rfl (lv_at hl 1 rfl) ?_
            refine xWg_0_3 q241 C hP dX0_goesRow_89 ?_
            refine xWg_5_0 q149 C hP dX0_goesRow_92 ?_
            refine va_mmin C.1 C.2.1 (by rw [hml]; exact hl.1.symm) C.2.2.1 (C.2.2.2.1 _ q1084) (C.2.2.2.1 _ q623) (C.2.2.2.1 _ q101) (C.2.2.2.1 _ q624) (Nat.le_of_ble_eq_true rfl) (Nat.le_of_ble_eq_true rfl) (Nat.zero_le _) (Nat.zero_le _) dX0_goesRow_95 ?_
            obtain rfl := Option.some.inj hE
            exact hJ98u3412 H locs ls hP hS (lv_sub hl [1, 2, 3, 0] rfl)
          · have hE := it_f c3411 hE
            refine lv_iconst (v := 0) C.1 C.2.1 dX0_goesRow_80 (by decide) ?_
            refine lv_goto (tgt := 98) C.1 C.2.1 dX0_goesRow_81 (by decide) ?_
            obtain rfl := Option.some.inj hE
            exact hJ98u3412 H locs ls hP hS (lv_sub hl [1, 2, 3, 0] rfl)
        have hE := hR
        refine lv_icmp_eq (tgt := 73) C.1 C.2.1 dX0_goesRow_66 (by decide) (fun c3409 => ?_) (fun c3409 => ?_)
        · have hE := it_t c3409 hE
          refine lv_iconst (v := 0) C.1 C.2.1 dX0_goesRow_73 (by decide) ?_
          obtain rfl := Option.some.inj hE
          exact hJ74u3410 H locs ls hP hS (lv_sub hl [0, 1, 2] rfl)
        · have hE := it_f c3409 hE
          refine lv_iconst (v := 1) C.1 C.2.1 dX0_goesRow_69 (by decide) ?_
          refine lv_goto (tgt := 74) C.1 C.2.1 dX0_goesRow_70 (by decide) ?_
          obtain rfl := Option.some.inj hE
          exact hJ74u3410 H locs ls hP hS (lv_sub hl [0, 1, 2] rfl)
      have hE := it_f c3404 hE
      obtain ⟨g3405, hE⟩ := it_g hE
      obtain ⟨q3406, hq34060, hq3406, hq34067⟩ := hom _ g3405
      obtain rfl := of_some hr3403 c3404 hq34060
      obtain ⟨r3418, hr3418, hE⟩ := it_b hE
      refine n_after [5, 6] C.2.2.2.2.2.1 C.2.2.2.2.2.2.2.1 hP hS (va_runV (As := [.ref q3406]) (rest := []) ⟨C.1, C.2.1, hml, C.2.2.1, C.2.2.2.1⟩ (metC_Pet_week_H l G (fun i => ad (5 + i)) pl _ _ _ _ q3406 (hk ((v_told (x2).toNatClampNeg)).toNatClampNeg) (v_told (x2).toNatClampNeg) (hb ((v_told (x2).toNatClampNeg)).toNatClampNeg) hq34067 hq3406 r3418 hr3418) (cwV (C := RX2) 1 C.2.2.2.1 (lw_V q1082 q985 q986 q82 q987) rfl rfl rfl (by decide +kernel) ⟨Nat.le_of_ble_eq_true rfl, Nat.le_of_ble_eq_true rfl⟩) (n_preV C hP hS [5, 6] sub_xW_pW_5 (by decide) rfl (va_recv C.2.2.2.2.1 hP (ci := 11) (q0 := 5) rfl rfl)) rfl rfl hl.1 rfl (lv_room (Nat.le_of_ble_eq_true rfl)) dX0_goesRow_55 ⟨Nat.le_refl _, Nat.le_refl _⟩) xW_av rfl rfl mg_xW_pW_5 (fun H locs hP hS => ?_)
      refine lv_aload_n C.1 C.2.1 dX0_goesRow_58 rfl (lv_at hl 0 rfl) ?_
      refine xWg_0_3 q241 C hP dX0_goesRow_59 ?_
      obtain ⟨r3419, hr3419, hE⟩ := it_b hE
      refine n_after [5, 6] C.2.2.2.2.2.1 C.2.2.2.2.2.2.2.1 hP hS (va_runV (As := []) (rest := []) ⟨C.1, C.2.1, hml, C.2.2.1, C.2.2.2.1⟩ (metC_Pet_dies l G (fun i => ad (5 + i)) pl _ _ _ _   r3419 hr3419) (cwV (C := RX2) 0 C.2.2.2.1 (lw_V q1083 q1024 q1025 q82 q1026) rfl rfl rfl (by decide +kernel) ⟨Nat.le_of_ble_eq_true rfl, Nat.le_of_ble_eq_true rfl⟩) (n_preV C hP hS [5, 6] sub_xW_pW_5 (by decide) rfl (va_recv C.2.2.2.2.1 hP (ci := 11) (q0 := 5) rfl rfl)) rfl rfl hl.1 rfl (lv_room (Nat.le_of_ble_eq_true rfl)) dX0_goesRow_62 ⟨Nat.le_refl _, Nat.le_refl _⟩) xW_av rfl rfl mg_xW_pW_5 (fun H locs hP hS => ?_)
      refine lv_iconst (v := (-1)) C.1 C.2.1 dX0_goesRow_65 (by decide) ?_
      obtain ⟨u3421, hR, hE⟩ := it_b hE
      have hJ74u3421 : ∀ (H : Heap) (locs : List Loc) (ls : Array Slot), va_P G.1 vwCl (xW G.2 ad v_latestFault v_died v_leastWeight v_noticedBy v_noticed v_orderDied v_orderLeast v_imaged v_shelves v_refusals v_ran v_bodies r3418.1 r3418.2.1 r3418.2.2 v_tasked v_told v_bestRow v_weight_a1 v_fright_a1 v_age_a1 v_asked_a1 v_weight_a2 v_fright_a2 v_age_a2 v_asked_a2 v_weight_a3 v_fright_a3 v_age_a3 v_asked_a3 v_weight_a4 v_fright_a4 v_age_a4 v_asked_a4 v_many v_pets v_last v_seed v_weight v_fright v_age v_asked v_homes v_marks v_had v_allergic v_deaths) H → va_S (nA (xWV ad)) s.heap H locs → lv_has ls 4 [(0, .ref (ad 0)), (1, .int x1), (2, .int x2)] → W p l e ({ frames := 5, cells := 0, slots := 0, locals := 106 } : Room) s m args below meth c H locs 0 0 Q (F0 m 74 ls [.int u3421]) := by
        intro H locs ls hP hS hl
        refine lv_istore_n (lv' := [(3, .int u3421), (0, .ref (ad 0)), (1, .int x1), (2, .int x2)]) C.1 C.2.1 dX0_goesRow_74 rfl hl (by decide) rfl (fun ls hl => ?_)
        refine lv_aload_n C.1 C.2.1 dX0_goesRow_75 rfl (lv_at hl 1 rfl) ?_
        refine lv_iload_n C.1 C.2.1 dX0_goesRow_76 rfl (lv_at hl 0 rfl) ?_
        obtain ⟨u3423, hR, hE⟩ := it_b hE
        have hJ98u3423 : ∀ (H : Heap) (locs : List Loc) (ls : Array Slot), va_P G.1 vwCl (xW G.2 ad v_latestFault v_died v_leastWeight v_noticedBy v_noticed v_orderDied v_orderLeast v_imaged v_shelves v_refusals v_ran v_bodies r3418.1 r3418.2.1 r3418.2.2 v_tasked v_told v_bestRow v_weight_a1 v_fright_a1 v_age_a1 v_asked_a1 v_weight_a2 v_fright_a2 v_age_a2 v_asked_a2 v_weight_a3 v_fright_a3 v_age_a3 v_asked_a3 v_weight_a4 v_fright_a4 v_age_a4 v_asked_a4 v_many v_pets v_last v_seed v_weight v_fright v_age v_asked v_homes v_marks v_had v_allergic v_deaths) H → va_S (nA (xWV ad)) s.heap H locs → lv_has ls 4 [(0, .ref (ad 0)), (1, .int x1), (2, .int x2), (3, .int u3421)] → W p l e ({ frames := 5, cells := 0, slots := 0, locals := 106 } : Room) s m args below meth c H locs 0 0 Q (F0 m 98 ls [.int u3423, .ref (ad 0)]) := by
          intro H locs ls hP hS hl
          refine xWp_0_10 q248 C hP hS dX0_goesRow_98 (fun H locs hP hS => ?_)
          refine lv_iload_n C.1 C.2.1 dX0_goesRow_101 rfl (lv_at hl 3 rfl) ?_
          obtain ⟨u3425, hR, hE⟩ := it_b hE
          have hJ156u3425 : ∀ (H : Heap) (locs : List Loc) (ls : Array Slot), va_P G.1 vwCl (xW G.2 ad v_latestFault u3425.1 u3423 v_noticedBy u3425.2.1 v_orderDied v_orderLeast v_imaged v_shelves v_refusals v_ran v_bodies u3425.2.2.1 u3425.2.2.2.1 u3425.2.2.2.2 v_tasked v_told v_bestRow v_weight_a1 v_fright_a1 v_age_a1 v_asked_a1 v_weight_a2 v_fright_a2 v_age_a2 v_asked_a2 v_weight_a3 v_fright_a3 v_age_a3 v_asked_a3 v_weight_a4 v_fright_a4 v_age_a4 v_asked_a4 v_many v_pets v_last v_seed v_weight v_fright v_age v_asked v_homes v_marks v_had v_allergic v_deaths) H → va_S (nA (xWV ad)) s.heap H locs → lv_has ls 4 [(0, .ref (ad 0)), (1, .int x1), (2, .int x2)] → W p l e ({ frames := 5, cells := 0, slots := 0, locals := 106 } : Room) s m args below meth c H locs 0 0 Q (F0 m 156 ls []) := by
            intro H locs ls hP hS hl
            refine lv_iinc (v := (x2 + 1)) (lv' := [(2, .int (x2 + 1)), (0, .ref (ad 0)), (1, .int x1)]) C.1 C.2.1 dX0_goesRow_156 hl (k := 2) rfl rfl (by decide) rfl (fun ls hl => ?_)
            refine lv_goto (tgt := 33) C.1 C.2.1 dX0_goesRow_159 (by decide) ?_
            exact ih (x2 + 1) u3425.1 u3423 u3425.2.1 u3425.2.2.1 u3425.2.2.2.1 u3425.2.2.2.2 _ _ _ hE hP hS (lv_sub hl [1, 2, 0] rfl) hX
          have hE := hR
          refine lv_if_eq (tgt := 156) C.1 C.2.1 dX0_goesRow_102 (by decide) (fun c3424 => ?_) (fun c3424 => ?_)
          · have hE := it_t c3424 hE
            obtain rfl := Option.some.inj hE
            exact hJ156u3425 H locs ls hP hS (lv_sub hl [0, 1, 2] rfl)
          · have hE := it_f c3424 hE
            refine lv_aload_n C.1 C.2.1 dX0_goesRow_105 rfl (lv_at hl 0 rfl) ?_
            refine lv_dup C.1 C.2.1 dX0_goesRow_106 rfl ?_
            refine xWg_0_9 q247 C hP dX0_goesRow_107 ?_
            refine lv_iconst (v := 1) C.1 C.2.1 dX0_goesRow_110 (by decide) ?_
            refine lv_iadd C.1 C.2.1 dX0_goesRow_111 ?_
            refine xWp_0_9 q247 C hP hS dX0_goesRow_112 (fun H locs hP hS => ?_)
            refine lv_aload_n C.1 C.2.1 dX0_goesRow_115 rfl (lv_at hl 0 rfl) ?_
            refine lv_dup C.1 C.2.1 dX0_goesRow_116 rfl ?_
            refine xWg_0_12 q250 C hP dX0_goesRow_117 ?_
            refine lv_aload_n C.1 C.2.1 dX0_goesRow_120 rfl (lv_at hl 0 rfl) ?_
            refine xWg_0_3 q241 C hP dX0_goesRow_121 ?_
            refine xWg_5_0 q149 C hP dX0_goesRow_124 ?_
            refine lv_bipush (v := 80) C.1 C.2.1 dX0_goesRow_127 (by decide) ?_
            refine lv_isub C.1 C.2.1 dX0_goesRow_129 ?_
            refine va_mabs C.1 C.2.1 (by rw [hml]; exact hl.1.symm) C.2.2.1 (C.2.2.2.1 _ q1085) (C.2.2.2.1 _ q1086) (C.2.2.2.1 _ q101) (C.2.2.2.1 _ q1087) (Nat.le_of_ble_eq_true rfl) (Nat.le_of_ble_eq_true rfl) (Nat.zero_le _) (Nat.zero_le _) dX0_goesRow_130 ?_
            refine lv_aload_n C.1 C.2.1 dX0_goesRow_133 rfl (lv_at hl 0 rfl) ?_
            refine xWg_0_11 q249 C hP dX0_goesRow_134 ?_
            obtain ⟨u3427, hR, hE⟩ := it_b hE
            have hJ145u3427 : ∀ (H : Heap) (locs : List Loc) (ls : Array Slot), va_P G.1 vwCl (xW G.2 ad v_latestFault (v_died + 1) u3423 v_noticedBy v_noticed v_orderDied v_orderLeast v_imaged v_shelves v_refusals v_ran v_bodies r3418.1 r3418.2.1 r3418.2.2 v_tasked v_told v_bestRow v_weight_a1 v_fright_a1 v_age_a1 v_asked_a1 v_weight_a2 v_fright_a2 v_age_a2 v_asked_a2 v_weight_a3 v_fright_a3 v_age_a3 v_asked_a3 v_weight_a4 v_fright_a4 v_age_a4 v_asked_a4 v_many v_pets v_last v_seed v_weight v_fright v_age v_asked v_homes v_marks v_had v_allergic v_deaths) H → va_S (nA (xWV ad)) s.heap H locs → lv_has ls 4 [(0, .ref (ad 0)), (1, .int x1), (2, .int x2)] → W p l e ({ frames := 5, cells := 0, slots := 0, locals := 106 } : Room) s m args below meth c H locs 0 0 Q (F0 m 145 ls [.int u3427, .int v_noticed, .ref (ad 0)]) := by
              intro H locs ls hP hS hl
              refine lv_iadd C.1 C.2.1 dX0_goesRow_145 ?_
              refine xWp_0_12 q250 C hP hS dX0_goesRow_146 (fun H locs hP hS => ?_)
              refine lv_aload_n C.1 C.2.1 dX0_goesRow_149 rfl (lv_at hl 0 rfl) ?_
              refine xWg_0_3 q241 C hP dX0_goesRow_150 ?_
              obtain ⟨r3428, hr3428, hE⟩ := it_b hE
              refine n_after [5, 6] C.2.2.2.2.2.1 C.2.2.2.2.2.2.2.1 hP hS (va_runV (As := []) (rest := []) ⟨C.1, C.2.1, hml, C.2.2.1, C.2.2.2.1⟩ (metC_Pet_replaced l G (fun i => ad (5 + i)) pl _ _ _ _   r3428 hr3428) (cwV (C := RX2) 0 C.2.2.2.1 (lw_V q1088 q1028 q1029 q82 q1030) rfl rfl rfl (by decide +kernel) ⟨Nat.le_of_ble_eq_true rfl, Nat.le_of_ble_eq_true rfl⟩) (n_preV C hP hS [5, 6] sub_xW_pW_5 (by decide) rfl (va_recv C.2.2.2.2.1 hP (ci := 11) (q0 := 5) rfl rfl)) rfl rfl hl.1 rfl (lv_room (Nat.le_of_ble_eq_true rfl)) dX0_goesRow_153 ⟨Nat.le_refl _, Nat.le_refl _⟩) xW_av rfl rfl mg_xW_pW_5 (fun H locs hP hS => ?_)
              obtain rfl := Option.some.inj hE
              exact hJ156u3425 H locs ls hP hS (lv_sub hl [0, 1, 2] rfl)
            have hE := hR
            refine lv_icmp_lt (tgt := 144) C.1 C.2.1 dX0_goesRow_137 (by decide) (fun c3426 => ?_) (fun c3426 => ?_)
            · have hE := it_t c3426 hE
              refine lv_iconst (v := 0) C.1 C.2.1 dX0_goesRow_144 (by decide) ?_
              obtain rfl := Option.some.inj hE
              exact hJ145u3427 H locs ls hP hS (lv_sub hl [0, 1, 2] rfl)
            · have hE := it_f c3426 hE
              refine lv_iconst (v := 1) C.1 C.2.1 dX0_goesRow_140 (by decide) ?_
              refine lv_goto (tgt := 145) C.1 C.2.1 dX0_goesRow_141 (by decide) ?_
              obtain rfl := Option.some.inj hE
              exact hJ145u3427 H locs ls hP hS (lv_sub hl [0, 1, 2] rfl)
        have hE := hR
        refine lv_if_eq (tgt := 84) C.1 C.2.1 dX0_goesRow_77 (by decide) (fun c3422 => ?_) (fun c3422 => ?_)
        · have hE := it_t c3422 hE
          refine lv_aload_n C.1 C.2.1 dX0_goesRow_84 rfl (lv_at hl 1 rfl) ?_
          refine xWg_0_10 q248 C hP dX0_goesRow_85 ?_
          refine lv_aload_n C.1 C.2.1 dX0_goesRow_88 rfl (lv_at hl 1 rfl) ?_
          refine xWg_0_3 q241 C hP dX0_goesRow_89 ?_
          refine xWg_5_0 q149 C hP dX0_goesRow_92 ?_
          refine va_mmin C.1 C.2.1 (by rw [hml]; exact hl.1.symm) C.2.2.1 (C.2.2.2.1 _ q1084) (C.2.2.2.1 _ q623) (C.2.2.2.1 _ q101) (C.2.2.2.1 _ q624) (Nat.le_of_ble_eq_true rfl) (Nat.le_of_ble_eq_true rfl) (Nat.zero_le _) (Nat.zero_le _) dX0_goesRow_95 ?_
          obtain rfl := Option.some.inj hE
          exact hJ98u3423 H locs ls hP hS (lv_sub hl [1, 2, 3, 0] rfl)
        · have hE := it_f c3422 hE
          refine lv_iconst (v := 0) C.1 C.2.1 dX0_goesRow_80 (by decide) ?_
          refine lv_goto (tgt := 98) C.1 C.2.1 dX0_goesRow_81 (by decide) ?_
          obtain rfl := Option.some.inj hE
          exact hJ98u3423 H locs ls hP hS (lv_sub hl [1, 2, 3, 0] rfl)
      have hE := hR
      refine lv_icmp_eq (tgt := 73) C.1 C.2.1 dX0_goesRow_66 (by decide) (fun c3420 => ?_) (fun c3420 => ?_)
      · have hE := it_t c3420 hE
        refine lv_iconst (v := 0) C.1 C.2.1 dX0_goesRow_73 (by decide) ?_
        obtain rfl := Option.some.inj hE
        exact hJ74u3421 H locs ls hP hS (lv_sub hl [0, 1, 2] rfl)
      · have hE := it_f c3420 hE
        refine lv_iconst (v := 1) C.1 C.2.1 dX0_goesRow_69 (by decide) ?_
        refine lv_goto (tgt := 74) C.1 C.2.1 dX0_goesRow_70 (by decide) ?_
        obtain rfl := Option.some.inj hE
        exact hJ74u3421 H locs ls hP hS (lv_sub hl [0, 1, 2] rfl)
set_option maxHeartbeats 4000000 in
theorem metC_HW_goesRow (l : Launch) (G : kG) (ad : Nat → Nat) (pl : va_W) (hk : Nat → Nat) (hb : Nat → Int32) (v_latestFault : Int32) (v_died : Int32) (v_leastWeight : Int32) (v_noticedBy : Int32) (v_noticed : Int32) (v_orderDied : Int32) (v_orderLeast : Int32) (v_imaged : Option Nat) (v_shelves : Nat → Option Nat) (v_refusals : Nat → Int32) (v_ran : Int32) (v_bodies : Nat → Int32) (v_tweight : Int32) (v_tfright : Int32) (v_tage : Int32) (v_tasked : Nat → Int32) (v_told : Nat → Int32) (v_bestRow : Nat → Int32) (v_weight_a1 : Int32) (v_fright_a1 : Int32) (v_age_a1 : Int32) (v_asked_a1 : Nat → Int32) (v_weight_a2 : Int32) (v_fright_a2 : Int32) (v_age_a2 : Int32) (v_asked_a2 : Nat → Int32) (v_weight_a3 : Int32) (v_fright_a3 : Int32) (v_age_a3 : Int32) (v_asked_a3 : Nat → Int32) (v_weight_a4 : Int32) (v_fright_a4 : Int32) (v_age_a4 : Int32) (v_asked_a4 : Nat → Int32) (v_many : Int32) (v_pets : Int32) (v_last : Int32) (v_seed : Int32) (v_weight : Int32) (v_fright : Int32) (v_age : Int32) (v_asked : Nat → Int32) (v_homes : Nat → Option Nat) (v_marks : Nat → Int32) (v_had : Nat → Int32) (v_allergic : Nat → Int32) (v_deaths : Nat → Int32) (hom : homOK v_homes v_many hk hb pl) (p1 : Int32) (res : Int32 × Int32 × Int32 × Int32 × Int32 × Int32) (hE : sC_HW_goesRow v_died v_leastWeight v_noticedBy v_noticed v_tweight v_tfright v_tage v_tasked v_told v_many v_homes hk hb p1 = some res) : Met l yX0_goesRow (ws_ yX0_goesRow cX0_goesRow 4 none) ({ frames := 5, cells := 0, slots := 0, locals := 106 } : Room) (nPc G (xW G.2 ad v_latestFault v_died v_leastWeight v_noticedBy v_noticed v_orderDied v_orderLeast v_imaged v_shelves v_refusals v_ran v_bodies v_tweight v_tfright v_tage v_tasked v_told v_bestRow v_weight_a1 v_fright_a1 v_age_a1 v_asked_a1 v_weight_a2 v_fright_a2 v_age_a2 v_asked_a2 v_weight_a3 v_fright_a3 v_age_a3 v_asked_a3 v_weight_a4 v_fright_a4 v_age_a4 v_asked_a4 v_many v_pets v_last v_seed v_weight v_fright v_age v_asked v_homes v_marks v_had v_allergic v_deaths) pl (xWV ad) [.ref (ad 0), .int p1]) (nQc G (xW G.2 ad v_latestFault res.1 res.2.1 v_noticedBy res.2.2.1 v_orderDied v_orderLeast v_imaged v_shelves v_refusals v_ran v_bodies res.2.2.2.1 res.2.2.2.2.1 res.2.2.2.2.2 v_tasked v_told v_bestRow v_weight_a1 v_fright_a1 v_age_a1 v_asked_a1 v_weight_a2 v_fright_a2 v_age_a2 v_asked_a2 v_weight_a3 v_fright_a3 v_age_a3 v_asked_a3 v_weight_a4 v_fright_a4 v_age_a4 v_asked_a4 v_many v_pets v_last v_seed v_weight v_fright v_age v_asked v_homes v_marks v_had v_allergic v_deaths) (xWV ad) none) 0 0 (nA (xWV ad)) := by
  refine n_ofW (own := RX0) (by decide) rfl (Nat.le_of_ble_eq_true rfl) ?_
  intro p e s m args below meth c ls C hml hP hS hl hr hlocks
  have hl : lv_has ls 4 [(0, .ref (ad 0)), (1, .int p1)] := hl
  obtain ⟨Q, hQ⟩ : ∃ Q, Q = MQ below (nQc G (xW G.2 ad v_latestFault res.1 res.2.1 v_noticedBy res.2.2.1 v_orderDied v_orderLeast v_imaged v_shelves v_refusals v_ran v_bodies res.2.2.2.1 res.2.2.2.2.1 res.2.2.2.2.2 v_tasked v_told v_bestRow v_weight_a1 v_fright_a1 v_age_a1 v_asked_a1 v_weight_a2 v_fright_a2 v_age_a2 v_asked_a2 v_weight_a3 v_fright_a3 v_age_a3 v_asked_a3 v_weight_a4 v_fright_a4 v_age_a4 v_asked_a4 v_many v_pets v_last v_seed v_weight v_fright v_age v_asked v_homes v_marks v_had v_allergic v_deaths) (xWV ad) none) args s 0 0 (nA (xWV ad)) := ⟨_, rfl⟩
  rw [← hQ]
  have hret : ∀ (pc : Nat) (ls : Array Slot) (H : Heap) (locs : List Loc), decode cX0_goesRow pc = .ok (.return_, 1) → va_P G.1 vwCl (xW G.2 ad v_latestFault res.1 res.2.1 v_noticedBy res.2.2.1 v_orderDied v_orderLeast v_imaged v_shelves v_refusals v_ran v_bodies res.2.2.2.1 res.2.2.2.2.1 res.2.2.2.2.2 v_tasked v_told v_bestRow v_weight_a1 v_fright_a1 v_age_a1 v_asked_a1 v_weight_a2 v_fright_a2 v_age_a2 v_asked_a2 v_weight_a3 v_fright_a3 v_age_a3 v_asked_a3 v_weight_a4 v_fright_a4 v_age_a4 v_asked_a4 v_many v_pets v_last v_seed v_weight v_fright v_age v_asked v_homes v_marks v_had v_allergic v_deaths) H → va_S (nA (xWV ad)) s.heap H locs → W p l e ({ frames := 5, cells := 0, slots := 0, locals := 106 } : Room) s m args below meth c H locs 0 0 Q (F0 m pc ls []) := by
    intro pc ls H locs hd hP hS
    rw [hQ]
    exact n_vret C hr hlocks hd hP hS
  clear hQ
  obtain ⟨H, hH⟩ : ∃ H, H = s.heap := ⟨_, rfl⟩
  obtain ⟨locs, hlo⟩ : ∃ locs : List Loc, locs = [] := ⟨_, rfl⟩
  have hP : va_P G.1 vwCl (xW G.2 ad v_latestFault v_died v_leastWeight v_noticedBy v_noticed v_orderDied v_orderLeast v_imaged v_shelves v_refusals v_ran v_bodies v_tweight v_tfright v_tage v_tasked v_told v_bestRow v_weight_a1 v_fright_a1 v_age_a1 v_asked_a1 v_weight_a2 v_fright_a2 v_age_a2 v_asked_a2 v_weight_a3 v_fright_a3 v_age_a3 v_asked_a3 v_weight_a4 v_fright_a4 v_age_a4 v_asked_a4 v_many v_pets v_last v_seed v_weight v_fright v_age v_asked v_homes v_marks v_had v_allergic v_deaths) H := by rw [hH]; exact hP
  have hS : va_S (nA (xWV ad)) s.heap H locs := by rw [hH, hlo]; exact hS
  suffices hZ : W p l e ({ frames := 5, cells := 0, slots := 0, locals := 106 } : Room) s m args below meth c H locs 0 0 Q (F0 m 0 ls []) by rw [hH, hlo] at hZ; exact hZ
  clear hH hlo
  unfold sC_HW_goesRow at hE
  refine lv_aload_n C.1 C.2.1 dX0_goesRow_0 rfl (lv_at hl 0 rfl) ?_
  refine lv_iconst (v := 0) C.1 C.2.1 dX0_goesRow_1 (by decide) ?_
  refine xWp_0_9 q247 C hP hS dX0_goesRow_2 (fun H locs hP hS => ?_)
  refine lv_aload_n C.1 C.2.1 dX0_goesRow_5 rfl (lv_at hl 0 rfl) ?_
  refine lv_iconst (v := 0) C.1 C.2.1 dX0_goesRow_6 (by decide) ?_
  refine xWp_0_12 q250 C hP hS dX0_goesRow_7 (fun H locs hP hS => ?_)
  refine lv_aload_n C.1 C.2.1 dX0_goesRow_10 rfl (lv_at hl 0 rfl) ?_
  refine lv_iload_n C.1 C.2.1 dX0_goesRow_11 rfl (lv_at hl 1 rfl) ?_
  obtain ⟨u2, hR, hE⟩ := it_b hE
  have hJ28u2 : ∀ (H : Heap) (locs : List Loc) (ls : Array Slot), va_P G.1 vwCl (xW G.2 ad v_latestFault 0 v_leastWeight v_noticedBy 0 v_orderDied v_orderLeast v_imaged v_shelves v_refusals v_ran v_bodies v_tweight v_tfright v_tage v_tasked v_told v_bestRow v_weight_a1 v_fright_a1 v_age_a1 v_asked_a1 v_weight_a2 v_fright_a2 v_age_a2 v_asked_a2 v_weight_a3 v_fright_a3 v_age_a3 v_asked_a3 v_weight_a4 v_fright_a4 v_age_a4 v_asked_a4 v_many v_pets v_last v_seed v_weight v_fright v_age v_asked v_homes v_marks v_had v_allergic v_deaths) H → va_S (nA (xWV ad)) s.heap H locs → lv_has ls 4 [(0, .ref (ad 0)), (1, .int p1)] → W p l e ({ frames := 5, cells := 0, slots := 0, locals := 106 } : Room) s m args below meth c H locs 0 0 Q (F0 m 28 ls [.int u2, .ref (ad 0)]) := by
    intro H locs ls hP hS hl
    refine xWp_0_10 q248 C hP hS dX0_goesRow_28 (fun H locs hP hS => ?_)
    refine lv_iconst (v := 0) C.1 C.2.1 dX0_goesRow_31 (by decide) ?_
    refine lv_istore_n (lv' := [(2, .int 0), (0, .ref (ad 0)), (1, .int p1)]) C.1 C.2.1 dX0_goesRow_32 rfl hl (by decide) rfl (fun ls hl => ?_)
    obtain ⟨u3, hu3, hE⟩ := it_b hE
    refine wC_HW_goesRow_h33 C hml  hom p1 u3 2000 0 0 u2 0 v_tweight v_tfright v_tage H locs ls hu3 hP hS (lv_sub hl [1, 2, 0] rfl) (fun H locs ls hP hS hl => ?_)
    obtain rfl := Option.some.inj hE
    exact hret _ _ _ _ dX0_goesRow_162 hP hS
  have hE := hR
  refine lv_if_ne (tgt := 25) C.1 C.2.1 dX0_goesRow_12 (by decide) (fun c1 => ?_) (fun c1 => ?_)
  · have hE := it_f c1 hE
    refine lv_sipush (v := 400) C.1 C.2.1 dX0_goesRow_25 (by decide) ?_
    obtain rfl := Option.some.inj hE
    exact hJ28u2 H locs ls hP hS (lv_sub hl [0, 1] rfl)
  · have hE := it_t c1 hE
    refine lv_aload_n C.1 C.2.1 dX0_goesRow_15 rfl (lv_at hl 0 rfl) ?_
    refine xWg_0_3 q241 C hP dX0_goesRow_16 ?_
    refine xWg_5_0 q149 C hP dX0_goesRow_19 ?_
    refine lv_goto (tgt := 28) C.1 C.2.1 dX0_goesRow_22 (by decide) ?_
    obtain rfl := Option.some.inj hE
    exact hJ28u2 H locs ls hP hS (lv_sub hl [0, 1] rfl)
def sC_HW_weightBehind_h27 (x2 : Int32) (v_tasked : Nat → Int32) : Nat → Int32 → Int32 → Int32 → Int32 → Option (Int32 × Int32 × Int32)
  | 0, _, _, _, _ => none
  | fuel + 1, x3, v_tweight, v_tfright, v_tage =>
    if x2 ≤ x3 then
      some (v_tweight, v_tfright, v_tage)
    else
      (sC_Pet_week_N v_tweight v_tfright v_tage v_tasked).bind fun r2802 =>
      sC_HW_weightBehind_h27 x2 v_tasked fuel (x3 + 1) r2802.1 r2802.2.1 r2802.2.2
def sC_HW_weightBehind (v_tweight : Int32) (v_tfright : Int32) (v_tage : Int32) (v_tasked : Nat → Int32) (v_many : Int32) (v_weight : Int32) (v_fright : Int32) (v_age : Int32) (v_asked : Nat → Int32) (v_homes : Nat → Option Nat) (hk : Nat → Nat) (hb : Nat → Int32) (p1 : Int32) (p2 : Int32) : Option (Int32 × Int32 × Int32 × Int32 × (Nat → Int32)) :=
  (sC_Pet_take v_tweight v_tfright v_tage v_tasked v_weight v_fright v_age v_asked).bind fun r1 =>
  (sC_Room_of v_homes p1).bind fun r2 =>
  if p1 = (-1) then
    (sC_Pet_week_N r1.1 r1.2.1 r1.2.2.1 r1.2.2.2).bind fun r6 =>
    (sC_HW_weightBehind_h27 p2 r1.2.2.2 2000 0 r6.1 r6.2.1 r6.2.2).bind fun u7 =>
    some (u7.1, u7.1, u7.2.1, u7.2.2, r1.2.2.2)
  else
  if gm p1 v_many then
  (sC_Pet_week_H r1.1 r1.2.1 r1.2.2.1 r1.2.2.2 (hk (p1).toNatClampNeg) p1 (hb (p1).toNatClampNeg)).bind fun r8 =>
  (sC_HW_weightBehind_h27 p2 r1.2.2.2 2000 0 r8.1 r8.2.1 r8.2.2).bind fun u9 =>
  some (u9.1, u9.1, u9.2.1, u9.2.2, r1.2.2.2)
  else none
set_option maxHeartbeats 4000000 in
theorem wC_HW_weightBehind_h27 {p : Program} {l : Launch} {e : Env} {s : State} {m : MethodId} {args : Array Value} {below : List Frame} {meth : Method} {c : Code} {Q : State → Prop} {G : kG} {ad : Nat → Nat} {pl : va_W} {hk : Nat → Nat} {hb : Nat → Int32} {v_latestFault : Int32} {v_died : Int32} {v_leastWeight : Int32} {v_noticedBy : Int32} {v_noticed : Int32} {v_orderDied : Int32} {v_orderLeast : Int32} {v_imaged : Option Nat} {v_shelves : Nat → Option Nat} {v_refusals : Nat → Int32} {v_ran : Int32} {v_bodies : Nat → Int32} {v_tasked : Nat → Int32} {v_told : Nat → Int32} {v_bestRow : Nat → Int32} {v_weight_a1 : Int32} {v_fright_a1 : Int32} {v_age_a1 : Int32} {v_asked_a1 : Nat → Int32} {v_weight_a2 : Int32} {v_fright_a2 : Int32} {v_age_a2 : Int32} {v_asked_a2 : Nat → Int32} {v_weight_a3 : Int32} {v_fright_a3 : Int32} {v_age_a3 : Int32} {v_asked_a3 : Nat → Int32} {v_weight_a4 : Int32} {v_fright_a4 : Int32} {v_age_a4 : Int32} {v_asked_a4 : Nat → Int32} {v_many : Int32} {v_pets : Int32} {v_last : Int32} {v_seed : Int32} {v_weight : Int32} {v_fright : Int32} {v_age : Int32} {v_asked : Nat → Int32} {v_homes : Nat → Option Nat} {v_marks : Nat → Int32} {v_had : Nat → Int32} {v_allergic : Nat → Int32} {v_deaths : Nat → Int32} (C : nC p s m args c cX0_weightBehind RX0 G (xWV ad) pl (nA (xWV ad))) (hml : c.maxLocals = 4)  (hom : homOK v_homes v_many hk hb pl) (x2 : Int32) (res : Int32 × Int32 × Int32) :
    ∀ (fuel : Nat) (x3 : Int32) (v_tweight : Int32) (v_tfright : Int32) (v_tage : Int32) (H : Heap) (locs : List Loc) (ls : Array Slot), sC_HW_weightBehind_h27 x2 v_tasked fuel x3 v_tweight v_tfright v_tage = some res → va_P G.1 vwCl (xW G.2 ad v_latestFault v_died v_leastWeight v_noticedBy v_noticed v_orderDied v_orderLeast v_imaged v_shelves v_refusals v_ran v_bodies v_tweight v_tfright v_tage v_tasked v_told v_bestRow v_weight_a1 v_fright_a1 v_age_a1 v_asked_a1 v_weight_a2 v_fright_a2 v_age_a2 v_asked_a2 v_weight_a3 v_fright_a3 v_age_a3 v_asked_a3 v_weight_a4 v_fright_a4 v_age_a4 v_asked_a4 v_many v_pets v_last v_seed v_weight v_fright v_age v_asked v_homes v_marks v_had v_allergic v_deaths) H → va_S (nA (xWV ad)) s.heap H locs → lv_has ls 4 [(0, .ref (ad 0)), (2, .int x2), (3, .int x3)] → (∀ (H : Heap) (locs : List Loc) (ls : Array Slot), va_P G.1 vwCl (xW G.2 ad v_latestFault v_died v_leastWeight v_noticedBy v_noticed v_orderDied v_orderLeast v_imaged v_shelves v_refusals v_ran v_bodies res.1 res.2.1 res.2.2 v_tasked v_told v_bestRow v_weight_a1 v_fright_a1 v_age_a1 v_asked_a1 v_weight_a2 v_fright_a2 v_age_a2 v_asked_a2 v_weight_a3 v_fright_a3 v_age_a3 v_asked_a3 v_weight_a4 v_fright_a4 v_age_a4 v_asked_a4 v_many v_pets v_last v_seed v_weight v_fright v_age v_asked v_homes v_marks v_had v_allergic v_deaths) H → va_S (nA (xWV ad)) s.heap H locs → lv_has ls 4 [(0, .ref (ad 0))] → W p l e ({ frames := 5, cells := 0, slots := 0, locals := 106 } : Room) s m args below meth c H locs 0 0 Q (F0 m 46 ls [])) → W p l e ({ frames := 5, cells := 0, slots := 0, locals := 106 } : Room) s m args below meth c H locs 0 0 Q (F0 m 27 ls []) := by
  intro fuel
  induction fuel with
  | zero =>
    intro x3 v_tweight v_tfright v_tage H locs ls hE
    exact it_n hE
  | succ fuel ih =>
    intro x3 v_tweight v_tfright v_tage H locs ls hE hP hS hl hX
    rw [sC_HW_weightBehind_h27] at hE
    refine lv_iload_n C.1 C.2.1 dX0_weightBehind_27 rfl (lv_at hl 2 rfl) ?_
    refine lv_iload_n C.1 C.2.1 dX0_weightBehind_28 rfl (lv_at hl 1 rfl) ?_
    refine lv_icmp_ge (tgt := 46) C.1 C.2.1 dX0_weightBehind_29 (by decide) (fun c2801 => ?_) (fun c2801 => ?_)
    · have hE := it_t c2801 hE
      obtain rfl := Option.some.inj hE
      exact hX H locs ls hP hS (lv_sub hl [0] rfl)
    · have hE := it_f c2801 hE
      refine lv_aload_n C.1 C.2.1 dX0_weightBehind_32 rfl (lv_at hl 0 rfl) ?_
      refine xWg_0_3 q241 C hP dX0_weightBehind_33 ?_
      refine lv_null C.1 C.2.1 dX0_weightBehind_36 ?_
      obtain ⟨r2802, hr2802, hE⟩ := it_b hE
      refine n_after [5, 6] C.2.2.2.2.2.1 C.2.2.2.2.2.2.2.1 hP hS (va_runV (As := [.null]) (rest := []) ⟨C.1, C.2.1, hml, C.2.2.1, C.2.2.2.1⟩ (metC_Pet_week_N l G (fun i => ad (5 + i)) pl _ _ _ _   r2802 hr2802) (cwV (C := RX2) 1 C.2.2.2.1 (lw_V q1082 q985 q986 q82 q987) rfl rfl rfl (by decide +kernel) ⟨Nat.le_of_ble_eq_true rfl, Nat.le_of_ble_eq_true rfl⟩) (n_preV C hP hS [5, 6] sub_xW_pW_5 (by decide) rfl (va_recv C.2.2.2.2.1 hP (ci := 11) (q0 := 5) rfl rfl)) rfl rfl hl.1 rfl (lv_room (Nat.le_of_ble_eq_true rfl)) dX0_weightBehind_37 ⟨Nat.le_refl _, Nat.le_refl _⟩) xW_av rfl rfl mg_xW_pW_5 (fun H locs hP hS => ?_)
      refine lv_iinc (v := (x3 + 1)) (lv' := [(3, .int (x3 + 1)), (0, .ref (ad 0)), (2, .int x2)]) C.1 C.2.1 dX0_weightBehind_40 hl (k := 2) rfl rfl (by decide) rfl (fun ls hl => ?_)
      refine lv_goto (tgt := 27) C.1 C.2.1 dX0_weightBehind_43 (by decide) ?_
      exact ih (x3 + 1) r2802.1 r2802.2.1 r2802.2.2 _ _ _ hE hP hS (lv_sub hl [1, 2, 0] rfl) hX
set_option maxHeartbeats 4000000 in
theorem metC_HW_weightBehind (l : Launch) (G : kG) (ad : Nat → Nat) (pl : va_W) (hk : Nat → Nat) (hb : Nat → Int32) (v_latestFault : Int32) (v_died : Int32) (v_leastWeight : Int32) (v_noticedBy : Int32) (v_noticed : Int32) (v_orderDied : Int32) (v_orderLeast : Int32) (v_imaged : Option Nat) (v_shelves : Nat → Option Nat) (v_refusals : Nat → Int32) (v_ran : Int32) (v_bodies : Nat → Int32) (v_tweight : Int32) (v_tfright : Int32) (v_tage : Int32) (v_tasked : Nat → Int32) (v_told : Nat → Int32) (v_bestRow : Nat → Int32) (v_weight_a1 : Int32) (v_fright_a1 : Int32) (v_age_a1 : Int32) (v_asked_a1 : Nat → Int32) (v_weight_a2 : Int32) (v_fright_a2 : Int32) (v_age_a2 : Int32) (v_asked_a2 : Nat → Int32) (v_weight_a3 : Int32) (v_fright_a3 : Int32) (v_age_a3 : Int32) (v_asked_a3 : Nat → Int32) (v_weight_a4 : Int32) (v_fright_a4 : Int32) (v_age_a4 : Int32) (v_asked_a4 : Nat → Int32) (v_many : Int32) (v_pets : Int32) (v_last : Int32) (v_seed : Int32) (v_weight : Int32) (v_fright : Int32) (v_age : Int32) (v_asked : Nat → Int32) (v_homes : Nat → Option Nat) (v_marks : Nat → Int32) (v_had : Nat → Int32) (v_allergic : Nat → Int32) (v_deaths : Nat → Int32) (hom : homOK v_homes v_many hk hb pl) (p1 : Int32) (p2 : Int32) (res : Int32 × Int32 × Int32 × Int32 × (Nat → Int32)) (hE : sC_HW_weightBehind v_tweight v_tfright v_tage v_tasked v_many v_weight v_fright v_age v_asked v_homes hk hb p1 p2 = some res) : Met l yX0_weightBehind (ws_ yX0_weightBehind cX0_weightBehind 4 (some .int)) ({ frames := 5, cells := 0, slots := 0, locals := 106 } : Room) (nPc G (xW G.2 ad v_latestFault v_died v_leastWeight v_noticedBy v_noticed v_orderDied v_orderLeast v_imaged v_shelves v_refusals v_ran v_bodies v_tweight v_tfright v_tage v_tasked v_told v_bestRow v_weight_a1 v_fright_a1 v_age_a1 v_asked_a1 v_weight_a2 v_fright_a2 v_age_a2 v_asked_a2 v_weight_a3 v_fright_a3 v_age_a3 v_asked_a3 v_weight_a4 v_fright_a4 v_age_a4 v_asked_a4 v_many v_pets v_last v_seed v_weight v_fright v_age v_asked v_homes v_marks v_had v_allergic v_deaths) pl (xWV ad) [.ref (ad 0), .int p1, .int p2]) (nQc G (xW G.2 ad v_latestFault v_died v_leastWeight v_noticedBy v_noticed v_orderDied v_orderLeast v_imaged v_shelves v_refusals v_ran v_bodies res.2.1 res.2.2.1 res.2.2.2.1 res.2.2.2.2 v_told v_bestRow v_weight_a1 v_fright_a1 v_age_a1 v_asked_a1 v_weight_a2 v_fright_a2 v_age_a2 v_asked_a2 v_weight_a3 v_fright_a3 v_age_a3 v_asked_a3 v_weight_a4 v_fright_a4 v_age_a4 v_asked_a4 v_many v_pets v_last v_seed v_weight v_fright v_age v_asked v_homes v_marks v_had v_allergic v_deaths) (xWV ad) (some (.int res.1))) 0 0 (nA (xWV ad)) := by
  refine n_ofW (own := RX0) (by decide) rfl (Nat.le_of_ble_eq_true rfl) ?_
  intro p e s m args below meth c ls C hml hP hS hl hr hlocks
  have hl : lv_has ls 4 [(0, .ref (ad 0)), (1, .int p1), (2, .int p2)] := hl
  obtain ⟨Q, hQ⟩ : ∃ Q, Q = MQ below (nQc G (xW G.2 ad v_latestFault v_died v_leastWeight v_noticedBy v_noticed v_orderDied v_orderLeast v_imaged v_shelves v_refusals v_ran v_bodies res.2.1 res.2.2.1 res.2.2.2.1 res.2.2.2.2 v_told v_bestRow v_weight_a1 v_fright_a1 v_age_a1 v_asked_a1 v_weight_a2 v_fright_a2 v_age_a2 v_asked_a2 v_weight_a3 v_fright_a3 v_age_a3 v_asked_a3 v_weight_a4 v_fright_a4 v_age_a4 v_asked_a4 v_many v_pets v_last v_seed v_weight v_fright v_age v_asked v_homes v_marks v_had v_allergic v_deaths) (xWV ad) (some (.int res.1))) args s 0 0 (nA (xWV ad)) := ⟨_, rfl⟩
  rw [← hQ]
  have hret : ∀ (pc : Nat) (ls : Array Slot) (H : Heap) (locs : List Loc), decode cX0_weightBehind pc = .ok (.ireturn, 1) → va_P G.1 vwCl (xW G.2 ad v_latestFault v_died v_leastWeight v_noticedBy v_noticed v_orderDied v_orderLeast v_imaged v_shelves v_refusals v_ran v_bodies res.2.1 res.2.2.1 res.2.2.2.1 res.2.2.2.2 v_told v_bestRow v_weight_a1 v_fright_a1 v_age_a1 v_asked_a1 v_weight_a2 v_fright_a2 v_age_a2 v_asked_a2 v_weight_a3 v_fright_a3 v_age_a3 v_asked_a3 v_weight_a4 v_fright_a4 v_age_a4 v_asked_a4 v_many v_pets v_last v_seed v_weight v_fright v_age v_asked v_homes v_marks v_had v_allergic v_deaths) H → va_S (nA (xWV ad)) s.heap H locs → W p l e ({ frames := 5, cells := 0, slots := 0, locals := 106 } : Room) s m args below meth c H locs 0 0 Q (F0 m pc ls [(.int res.1)]) := by
    intro pc ls H locs hd hP hS
    rw [hQ]
    exact n_iret C hr hlocks hd hP hS
  clear hQ
  obtain ⟨H, hH⟩ : ∃ H, H = s.heap := ⟨_, rfl⟩
  obtain ⟨locs, hlo⟩ : ∃ locs : List Loc, locs = [] := ⟨_, rfl⟩
  have hP : va_P G.1 vwCl (xW G.2 ad v_latestFault v_died v_leastWeight v_noticedBy v_noticed v_orderDied v_orderLeast v_imaged v_shelves v_refusals v_ran v_bodies v_tweight v_tfright v_tage v_tasked v_told v_bestRow v_weight_a1 v_fright_a1 v_age_a1 v_asked_a1 v_weight_a2 v_fright_a2 v_age_a2 v_asked_a2 v_weight_a3 v_fright_a3 v_age_a3 v_asked_a3 v_weight_a4 v_fright_a4 v_age_a4 v_asked_a4 v_many v_pets v_last v_seed v_weight v_fright v_age v_asked v_homes v_marks v_had v_allergic v_deaths) H := by rw [hH]; exact hP
  have hS : va_S (nA (xWV ad)) s.heap H locs := by rw [hH, hlo]; exact hS
  suffices hZ : W p l e ({ frames := 5, cells := 0, slots := 0, locals := 106 } : Room) s m args below meth c H locs 0 0 Q (F0 m 0 ls []) by rw [hH, hlo] at hZ; exact hZ
  clear hH hlo
  unfold sC_HW_weightBehind at hE
  refine lv_aload_n C.1 C.2.1 dX0_weightBehind_0 rfl (lv_at hl 0 rfl) ?_
  refine xWg_0_3 q241 C hP dX0_weightBehind_1 ?_
  refine lv_aload_n C.1 C.2.1 dX0_weightBehind_4 rfl (lv_at hl 0 rfl) ?_
  refine xWg_0_6 q244 C hP dX0_weightBehind_5 ?_
  refine xWg_18_4 q191 C hP dX0_weightBehind_8 ?_
  obtain ⟨r1, hr1, hE⟩ := it_b hE
  refine n_after [5, 6, 19, 20] C.2.2.2.2.2.1 C.2.2.2.2.2.2.2.1 hP hS (va_runV (As := [.ref (ad 19)]) (rest := []) ⟨C.1, C.2.1, hml, C.2.2.1, C.2.2.2.1⟩ (metC_Pet_take l G (fun i => ad (if i < 2 then 5 + i else 19 + (i - 2))) pl _ _ _ _ _ _ _ _   r1 hr1) (cwV (C := RX2) 1 C.2.2.2.1 (lw_V q1076 q796 q797 q82 q798) rfl rfl rfl (by decide +kernel) ⟨Nat.le_of_ble_eq_true rfl, Nat.le_of_ble_eq_true rfl⟩) (n_preV C hP hS [5, 6, 19, 20] sub_xW_ppW_5_19 (by decide) rfl (va_recv C.2.2.2.2.1 hP (ci := 11) (q0 := 5) rfl rfl)) rfl rfl hl.1 rfl (lv_room (Nat.le_of_ble_eq_true rfl)) dX0_weightBehind_11 ⟨Nat.le_refl _, Nat.le_refl _⟩) xW_av rfl rfl mg_xW_ppW_5_19 (fun H locs hP hS => ?_)
  refine lv_aload_n C.1 C.2.1 dX0_weightBehind_14 rfl (lv_at hl 0 rfl) ?_
  refine xWg_0_6 q244 C hP dX0_weightBehind_15 ?_
  refine lv_iload_n C.1 C.2.1 dX0_weightBehind_18 rfl (lv_at hl 1 rfl) ?_
  obtain ⟨r2, hr2, hE⟩ := it_b hE
  refine n_after [18, 19, 20, 21, 22, 23, 24, 25] C.2.2.2.2.2.1 C.2.2.2.2.2.2.2.1 hP hS (va_runV (As := [.int p1]) (rest := [.ref (ad 5)]) ⟨C.1, C.2.1, hml, C.2.2.1, C.2.2.2.1⟩ (metC_Room_of l G (fun i => ad (18 + i)) pl _ _ _ _ _ _ _ _ _ _ _ _ _ p1  r2 hr2) (cwV (C := RX3) 1 C.2.2.2.1 (lw_V q1081 q981 q982 q83 q983) rfl rfl rfl (by decide +kernel) ⟨Nat.le_of_ble_eq_true rfl, Nat.le_of_ble_eq_true rfl⟩) (n_preV C hP hS [18, 19, 20, 21, 22, 23, 24, 25] sub_xW_rW_18 (by decide) rfl (va_recv C.2.2.2.2.1 hP (ci := 12) (q0 := 18) rfl rfl)) rfl rfl hl.1 rfl (lv_room (Nat.le_of_ble_eq_true rfl)) dX0_weightBehind_19 ⟨Nat.le_refl _, Nat.le_refl _⟩) xW_av rfl rfl mg_xW_rW_18 (fun H locs hP hS => ?_)
  by_cases c3 : p1 = (-1)
  · have hE := it_t c3 hE
    obtain rfl := of_none hr2 c3
    obtain ⟨r6, hr6, hE⟩ := it_b hE
    refine n_after [5, 6] C.2.2.2.2.2.1 C.2.2.2.2.2.2.2.1 hP hS (va_runV (As := [.null]) (rest := []) ⟨C.1, C.2.1, hml, C.2.2.1, C.2.2.2.1⟩ (metC_Pet_week_N l G (fun i => ad (5 + i)) pl _ _ _ _   r6 hr6) (cwV (C := RX2) 1 C.2.2.2.1 (lw_V q1082 q985 q986 q82 q987) rfl rfl rfl (by decide +kernel) ⟨Nat.le_of_ble_eq_true rfl, Nat.le_of_ble_eq_true rfl⟩) (n_preV C hP hS [5, 6] sub_xW_pW_5 (by decide) rfl (va_recv C.2.2.2.2.1 hP (ci := 11) (q0 := 5) rfl rfl)) rfl rfl hl.1 rfl (lv_room (Nat.le_of_ble_eq_true rfl)) dX0_weightBehind_22 ⟨Nat.le_refl _, Nat.le_refl _⟩) xW_av rfl rfl mg_xW_pW_5 (fun H locs hP hS => ?_)
    refine lv_iconst (v := 0) C.1 C.2.1 dX0_weightBehind_25 (by decide) ?_
    refine lv_istore_n (lv' := [(3, .int 0), (0, .ref (ad 0)), (1, .int p1), (2, .int p2)]) C.1 C.2.1 dX0_weightBehind_26 rfl hl (by decide) rfl (fun ls hl => ?_)
    obtain ⟨u7, hu7, hE⟩ := it_b hE
    refine wC_HW_weightBehind_h27 C hml  hom p2 u7 2000 0 r6.1 r6.2.1 r6.2.2 H locs ls hu7 hP hS (lv_sub hl [1, 3, 0] rfl) (fun H locs ls hP hS hl => ?_)
    refine lv_aload_n C.1 C.2.1 dX0_weightBehind_46 rfl (lv_at hl 0 rfl) ?_
    refine xWg_0_3 q241 C hP dX0_weightBehind_47 ?_
    refine xWg_5_0 q149 C hP dX0_weightBehind_50 ?_
    obtain rfl := Option.some.inj hE
    exact hret _ _ _ _ dX0_weightBehind_53 hP hS
  have hE := it_f c3 hE
  obtain ⟨g4, hE⟩ := it_g hE
  obtain ⟨q5, hq50, hq5, hq57⟩ := hom _ g4
  obtain rfl := of_some hr2 c3 hq50
  obtain ⟨r8, hr8, hE⟩ := it_b hE
  refine n_after [5, 6] C.2.2.2.2.2.1 C.2.2.2.2.2.2.2.1 hP hS (va_runV (As := [.ref q5]) (rest := []) ⟨C.1, C.2.1, hml, C.2.2.1, C.2.2.2.1⟩ (metC_Pet_week_H l G (fun i => ad (5 + i)) pl _ _ _ _ q5 (hk (p1).toNatClampNeg) p1 (hb (p1).toNatClampNeg) hq57 hq5 r8 hr8) (cwV (C := RX2) 1 C.2.2.2.1 (lw_V q1082 q985 q986 q82 q987) rfl rfl rfl (by decide +kernel) ⟨Nat.le_of_ble_eq_true rfl, Nat.le_of_ble_eq_true rfl⟩) (n_preV C hP hS [5, 6] sub_xW_pW_5 (by decide) rfl (va_recv C.2.2.2.2.1 hP (ci := 11) (q0 := 5) rfl rfl)) rfl rfl hl.1 rfl (lv_room (Nat.le_of_ble_eq_true rfl)) dX0_weightBehind_22 ⟨Nat.le_refl _, Nat.le_refl _⟩) xW_av rfl rfl mg_xW_pW_5 (fun H locs hP hS => ?_)
  refine lv_iconst (v := 0) C.1 C.2.1 dX0_weightBehind_25 (by decide) ?_
  refine lv_istore_n (lv' := [(3, .int 0), (0, .ref (ad 0)), (1, .int p1), (2, .int p2)]) C.1 C.2.1 dX0_weightBehind_26 rfl hl (by decide) rfl (fun ls hl => ?_)
  obtain ⟨u9, hu9, hE⟩ := it_b hE
  refine wC_HW_weightBehind_h27 C hml  hom p2 u9 2000 0 r8.1 r8.2.1 r8.2.2 H locs ls hu9 hP hS (lv_sub hl [1, 3, 0] rfl) (fun H locs ls hP hS hl => ?_)
  refine lv_aload_n C.1 C.2.1 dX0_weightBehind_46 rfl (lv_at hl 0 rfl) ?_
  refine xWg_0_3 q241 C hP dX0_weightBehind_47 ?_
  refine xWg_5_0 q149 C hP dX0_weightBehind_50 ?_
  obtain rfl := Option.some.inj hE
  exact hret _ _ _ _ dX0_weightBehind_53 hP hS
def sC_HW_lasts_h17 (v_tasked : Nat → Int32) : Nat → Int32 → Int32 → Int32 → Int32 → Option (Int32 × Int32 × Int32 × Int32 × (Nat → Int32))
  | 0, _, _, _, _ => none
  | fuel + 1, x1, v_tweight, v_tfright, v_tage =>
    if 1000 < x1 then
      some ((-1), v_tweight, v_tfright, v_tage, v_tasked)
    else
      (sC_Pet_week_N v_tweight v_tfright v_tage v_tasked).bind fun r1802 =>
      (sC_Pet_dies r1802.1 r1802.2.1 r1802.2.2 v_tasked).bind fun r1803 =>
      if r1803 = (-1) then
        sC_HW_lasts_h17 v_tasked fuel (x1 + 1) r1802.1 r1802.2.1 r1802.2.2
      else
        some (x1, r1802.1, r1802.2.1, r1802.2.2, v_tasked)
def sC_HW_lasts (v_tweight : Int32) (v_tfright : Int32) (v_tage : Int32) (v_tasked : Nat → Int32) (v_weight : Int32) (v_fright : Int32) (v_age : Int32) (v_asked : Nat → Int32) : Option (Int32 × Int32 × Int32 × Int32 × (Nat → Int32)) :=
  (sC_Pet_take v_tweight v_tfright v_tage v_tasked v_weight v_fright v_age v_asked).bind fun r1 =>
  sC_HW_lasts_h17 r1.2.2.2 2000 1 r1.1 r1.2.1 r1.2.2.1
set_option maxHeartbeats 4000000 in
theorem wC_HW_lasts_h17 {p : Program} {l : Launch} {e : Env} {s : State} {m : MethodId} {args : Array Value} {below : List Frame} {meth : Method} {c : Code} {Q : State → Prop} {G : kG} {ad : Nat → Nat} {pl : va_W} {v_latestFault : Int32} {v_died : Int32} {v_leastWeight : Int32} {v_noticedBy : Int32} {v_noticed : Int32} {v_orderDied : Int32} {v_orderLeast : Int32} {v_imaged : Option Nat} {v_shelves : Nat → Option Nat} {v_refusals : Nat → Int32} {v_ran : Int32} {v_bodies : Nat → Int32} {v_tasked : Nat → Int32} {v_told : Nat → Int32} {v_bestRow : Nat → Int32} {v_weight_a1 : Int32} {v_fright_a1 : Int32} {v_age_a1 : Int32} {v_asked_a1 : Nat → Int32} {v_weight_a2 : Int32} {v_fright_a2 : Int32} {v_age_a2 : Int32} {v_asked_a2 : Nat → Int32} {v_weight_a3 : Int32} {v_fright_a3 : Int32} {v_age_a3 : Int32} {v_asked_a3 : Nat → Int32} {v_weight_a4 : Int32} {v_fright_a4 : Int32} {v_age_a4 : Int32} {v_asked_a4 : Nat → Int32} {v_many : Int32} {v_pets : Int32} {v_last : Int32} {v_seed : Int32} {v_weight : Int32} {v_fright : Int32} {v_age : Int32} {v_asked : Nat → Int32} {v_homes : Nat → Option Nat} {v_marks : Nat → Int32} {v_had : Nat → Int32} {v_allergic : Nat → Int32} {v_deaths : Nat → Int32} (C : nC p s m args c cX0_lasts RX0 G (xWV ad) pl (nA (xWV ad))) (hml : c.maxLocals = 2)   (res : Int32 × Int32 × Int32 × Int32 × (Nat → Int32)) :
    ∀ (fuel : Nat) (x1 : Int32) (v_tweight : Int32) (v_tfright : Int32) (v_tage : Int32) (H : Heap) (locs : List Loc) (ls : Array Slot), sC_HW_lasts_h17 v_tasked fuel x1 v_tweight v_tfright v_tage = some res → va_P G.1 vwCl (xW G.2 ad v_latestFault v_died v_leastWeight v_noticedBy v_noticed v_orderDied v_orderLeast v_imaged v_shelves v_refusals v_ran v_bodies v_tweight v_tfright v_tage v_tasked v_told v_bestRow v_weight_a1 v_fright_a1 v_age_a1 v_asked_a1 v_weight_a2 v_fright_a2 v_age_a2 v_asked_a2 v_weight_a3 v_fright_a3 v_age_a3 v_asked_a3 v_weight_a4 v_fright_a4 v_age_a4 v_asked_a4 v_many v_pets v_last v_seed v_weight v_fright v_age v_asked v_homes v_marks v_had v_allergic v_deaths) H → va_S (nA (xWV ad)) s.heap H locs → lv_has ls 2 [(0, .ref (ad 0)), (1, .int x1)] → (∀ (pc : Nat) (ls : Array Slot) (H : Heap) (locs : List Loc), decode cX0_lasts pc = .ok (.ireturn, 1) → va_P G.1 vwCl (xW G.2 ad v_latestFault v_died v_leastWeight v_noticedBy v_noticed v_orderDied v_orderLeast v_imaged v_shelves v_refusals v_ran v_bodies res.2.1 res.2.2.1 res.2.2.2.1 res.2.2.2.2 v_told v_bestRow v_weight_a1 v_fright_a1 v_age_a1 v_asked_a1 v_weight_a2 v_fright_a2 v_age_a2 v_asked_a2 v_weight_a3 v_fright_a3 v_age_a3 v_asked_a3 v_weight_a4 v_fright_a4 v_age_a4 v_asked_a4 v_many v_pets v_last v_seed v_weight v_fright v_age v_asked v_homes v_marks v_had v_allergic v_deaths) H → va_S (nA (xWV ad)) s.heap H locs → W p l e ({ frames := 3, cells := 0, slots := 0, locals := 66 } : Room) s m args below meth c H locs 0 0 Q (F0 m pc ls [(.int res.1)])) → W p l e ({ frames := 3, cells := 0, slots := 0, locals := 66 } : Room) s m args below meth c H locs 0 0 Q (F0 m 17 ls []) := by
  intro fuel
  induction fuel with
  | zero =>
    intro x1 v_tweight v_tfright v_tage H locs ls hE
    exact it_n hE
  | succ fuel ih =>
    intro x1 v_tweight v_tfright v_tage H locs ls hE hP hS hl hret
    rw [sC_HW_lasts_h17] at hE
    refine lv_iload_n C.1 C.2.1 dX0_lasts_17 rfl (lv_at hl 1 rfl) ?_
    refine lv_sipush (v := 1000) C.1 C.2.1 dX0_lasts_18 (by decide) ?_
    refine lv_icmp_gt (tgt := 51) C.1 C.2.1 dX0_lasts_21 (by decide) (fun c1801 => ?_) (fun c1801 => ?_)
    · have hE := it_t c1801 hE
      refine lv_iconst (v := (-1)) C.1 C.2.1 dX0_lasts_51 (by decide) ?_
      obtain rfl := Option.some.inj hE
      exact hret _ _ _ _ dX0_lasts_52 hP hS
    · have hE := it_f c1801 hE
      refine lv_aload_n C.1 C.2.1 dX0_lasts_24 rfl (lv_at hl 0 rfl) ?_
      refine xWg_0_3 q241 C hP dX0_lasts_25 ?_
      refine lv_null C.1 C.2.1 dX0_lasts_28 ?_
      obtain ⟨r1802, hr1802, hE⟩ := it_b hE
      refine n_after [5, 6] C.2.2.2.2.2.1 C.2.2.2.2.2.2.2.1 hP hS (va_runV (As := [.null]) (rest := []) ⟨C.1, C.2.1, hml, C.2.2.1, C.2.2.2.1⟩ (metC_Pet_week_N l G (fun i => ad (5 + i)) pl _ _ _ _   r1802 hr1802) (cwV (C := RX2) 1 C.2.2.2.1 (lw_V q1082 q985 q986 q82 q987) rfl rfl rfl (by decide +kernel) ⟨Nat.le_of_ble_eq_true rfl, Nat.le_of_ble_eq_true rfl⟩) (n_preV C hP hS [5, 6] sub_xW_pW_5 (by decide) rfl (va_recv C.2.2.2.2.1 hP (ci := 11) (q0 := 5) rfl rfl)) rfl rfl hl.1 rfl (lv_room (Nat.le_of_ble_eq_true rfl)) dX0_lasts_29 ⟨Nat.le_refl _, Nat.le_refl _⟩) xW_av rfl rfl mg_xW_pW_5 (fun H locs hP hS => ?_)
      refine lv_aload_n C.1 C.2.1 dX0_lasts_32 rfl (lv_at hl 0 rfl) ?_
      refine xWg_0_3 q241 C hP dX0_lasts_33 ?_
      obtain ⟨r1803, hr1803, hE⟩ := it_b hE
      refine n_after [5, 6] C.2.2.2.2.2.1 C.2.2.2.2.2.2.2.1 hP hS (va_runV (As := []) (rest := []) ⟨C.1, C.2.1, hml, C.2.2.1, C.2.2.2.1⟩ (metC_Pet_dies l G (fun i => ad (5 + i)) pl _ _ _ _   r1803 hr1803) (cwV (C := RX2) 0 C.2.2.2.1 (lw_V q1083 q1024 q1025 q82 q1026) rfl rfl rfl (by decide +kernel) ⟨Nat.le_of_ble_eq_true rfl, Nat.le_of_ble_eq_true rfl⟩) (n_preV C hP hS [5, 6] sub_xW_pW_5 (by decide) rfl (va_recv C.2.2.2.2.1 hP (ci := 11) (q0 := 5) rfl rfl)) rfl rfl hl.1 rfl (lv_room (Nat.le_of_ble_eq_true rfl)) dX0_lasts_36 ⟨Nat.le_refl _, Nat.le_refl _⟩) xW_av rfl rfl mg_xW_pW_5 (fun H locs hP hS => ?_)
      refine lv_iconst (v := (-1)) C.1 C.2.1 dX0_lasts_39 (by decide) ?_
      refine lv_icmp_eq (tgt := 45) C.1 C.2.1 dX0_lasts_40 (by decide) (fun c1804 => ?_) (fun c1804 => ?_)
      · have hE := it_t c1804 hE
        refine lv_iinc (v := (x1 + 1)) (lv' := [(1, .int (x1 + 1)), (0, .ref (ad 0))]) C.1 C.2.1 dX0_lasts_45 hl (k := 1) rfl rfl (by decide) rfl (fun ls hl => ?_)
        refine lv_goto (tgt := 17) C.1 C.2.1 dX0_lasts_48 (by decide) ?_
        exact ih (x1 + 1) r1802.1 r1802.2.1 r1802.2.2 _ _ _ hE hP hS (lv_sub hl [1, 0] rfl) hret
      · have hE := it_f c1804 hE
        refine lv_iload_n C.1 C.2.1 dX0_lasts_43 rfl (lv_at hl 1 rfl) ?_
        obtain rfl := Option.some.inj hE
        exact hret _ _ _ _ dX0_lasts_44 hP hS
set_option maxHeartbeats 4000000 in
theorem metC_HW_lasts (l : Launch) (G : kG) (ad : Nat → Nat) (pl : va_W) (v_latestFault : Int32) (v_died : Int32) (v_leastWeight : Int32) (v_noticedBy : Int32) (v_noticed : Int32) (v_orderDied : Int32) (v_orderLeast : Int32) (v_imaged : Option Nat) (v_shelves : Nat → Option Nat) (v_refusals : Nat → Int32) (v_ran : Int32) (v_bodies : Nat → Int32) (v_tweight : Int32) (v_tfright : Int32) (v_tage : Int32) (v_tasked : Nat → Int32) (v_told : Nat → Int32) (v_bestRow : Nat → Int32) (v_weight_a1 : Int32) (v_fright_a1 : Int32) (v_age_a1 : Int32) (v_asked_a1 : Nat → Int32) (v_weight_a2 : Int32) (v_fright_a2 : Int32) (v_age_a2 : Int32) (v_asked_a2 : Nat → Int32) (v_weight_a3 : Int32) (v_fright_a3 : Int32) (v_age_a3 : Int32) (v_asked_a3 : Nat → Int32) (v_weight_a4 : Int32) (v_fright_a4 : Int32) (v_age_a4 : Int32) (v_asked_a4 : Nat → Int32) (v_many : Int32) (v_pets : Int32) (v_last : Int32) (v_seed : Int32) (v_weight : Int32) (v_fright : Int32) (v_age : Int32) (v_asked : Nat → Int32) (v_homes : Nat → Option Nat) (v_marks : Nat → Int32) (v_had : Nat → Int32) (v_allergic : Nat → Int32) (v_deaths : Nat → Int32)  (res : Int32 × Int32 × Int32 × Int32 × (Nat → Int32)) (hE : sC_HW_lasts v_tweight v_tfright v_tage v_tasked v_weight v_fright v_age v_asked = some res) : Met l yX0_lasts (ws_ yX0_lasts cX0_lasts 2 (some .int)) ({ frames := 3, cells := 0, slots := 0, locals := 66 } : Room) (nPc G (xW G.2 ad v_latestFault v_died v_leastWeight v_noticedBy v_noticed v_orderDied v_orderLeast v_imaged v_shelves v_refusals v_ran v_bodies v_tweight v_tfright v_tage v_tasked v_told v_bestRow v_weight_a1 v_fright_a1 v_age_a1 v_asked_a1 v_weight_a2 v_fright_a2 v_age_a2 v_asked_a2 v_weight_a3 v_fright_a3 v_age_a3 v_asked_a3 v_weight_a4 v_fright_a4 v_age_a4 v_asked_a4 v_many v_pets v_last v_seed v_weight v_fright v_age v_asked v_homes v_marks v_had v_allergic v_deaths) pl (xWV ad) [.ref (ad 0)]) (nQc G (xW G.2 ad v_latestFault v_died v_leastWeight v_noticedBy v_noticed v_orderDied v_orderLeast v_imaged v_shelves v_refusals v_ran v_bodies res.2.1 res.2.2.1 res.2.2.2.1 res.2.2.2.2 v_told v_bestRow v_weight_a1 v_fright_a1 v_age_a1 v_asked_a1 v_weight_a2 v_fright_a2 v_age_a2 v_asked_a2 v_weight_a3 v_fright_a3 v_age_a3 v_asked_a3 v_weight_a4 v_fright_a4 v_age_a4 v_asked_a4 v_many v_pets v_last v_seed v_weight v_fright v_age v_asked v_homes v_marks v_had v_allergic v_deaths) (xWV ad) (some (.int res.1))) 0 0 (nA (xWV ad)) := by
  refine n_ofW (own := RX0) (by decide) rfl (Nat.le_of_ble_eq_true rfl) ?_
  intro p e s m args below meth c ls C hml hP hS hl hr hlocks
  have hl : lv_has ls 2 [(0, .ref (ad 0))] := hl
  obtain ⟨Q, hQ⟩ : ∃ Q, Q = MQ below (nQc G (xW G.2 ad v_latestFault v_died v_leastWeight v_noticedBy v_noticed v_orderDied v_orderLeast v_imaged v_shelves v_refusals v_ran v_bodies res.2.1 res.2.2.1 res.2.2.2.1 res.2.2.2.2 v_told v_bestRow v_weight_a1 v_fright_a1 v_age_a1 v_asked_a1 v_weight_a2 v_fright_a2 v_age_a2 v_asked_a2 v_weight_a3 v_fright_a3 v_age_a3 v_asked_a3 v_weight_a4 v_fright_a4 v_age_a4 v_asked_a4 v_many v_pets v_last v_seed v_weight v_fright v_age v_asked v_homes v_marks v_had v_allergic v_deaths) (xWV ad) (some (.int res.1))) args s 0 0 (nA (xWV ad)) := ⟨_, rfl⟩
  rw [← hQ]
  have hret : ∀ (pc : Nat) (ls : Array Slot) (H : Heap) (locs : List Loc), decode cX0_lasts pc = .ok (.ireturn, 1) → va_P G.1 vwCl (xW G.2 ad v_latestFault v_died v_leastWeight v_noticedBy v_noticed v_orderDied v_orderLeast v_imaged v_shelves v_refusals v_ran v_bodies res.2.1 res.2.2.1 res.2.2.2.1 res.2.2.2.2 v_told v_bestRow v_weight_a1 v_fright_a1 v_age_a1 v_asked_a1 v_weight_a2 v_fright_a2 v_age_a2 v_asked_a2 v_weight_a3 v_fright_a3 v_age_a3 v_asked_a3 v_weight_a4 v_fright_a4 v_age_a4 v_asked_a4 v_many v_pets v_last v_seed v_weight v_fright v_age v_asked v_homes v_marks v_had v_allergic v_deaths) H → va_S (nA (xWV ad)) s.heap H locs → W p l e ({ frames := 3, cells := 0, slots := 0, locals := 66 } : Room) s m args below meth c H locs 0 0 Q (F0 m pc ls [(.int res.1)]) := by
    intro pc ls H locs hd hP hS
    rw [hQ]
    exact n_iret C hr hlocks hd hP hS
  clear hQ
  obtain ⟨H, hH⟩ : ∃ H, H = s.heap := ⟨_, rfl⟩
  obtain ⟨locs, hlo⟩ : ∃ locs : List Loc, locs = [] := ⟨_, rfl⟩
  have hP : va_P G.1 vwCl (xW G.2 ad v_latestFault v_died v_leastWeight v_noticedBy v_noticed v_orderDied v_orderLeast v_imaged v_shelves v_refusals v_ran v_bodies v_tweight v_tfright v_tage v_tasked v_told v_bestRow v_weight_a1 v_fright_a1 v_age_a1 v_asked_a1 v_weight_a2 v_fright_a2 v_age_a2 v_asked_a2 v_weight_a3 v_fright_a3 v_age_a3 v_asked_a3 v_weight_a4 v_fright_a4 v_age_a4 v_asked_a4 v_many v_pets v_last v_seed v_weight v_fright v_age v_asked v_homes v_marks v_had v_allergic v_deaths) H := by rw [hH]; exact hP
  have hS : va_S (nA (xWV ad)) s.heap H locs := by rw [hH, hlo]; exact hS
  suffices hZ : W p l e ({ frames := 3, cells := 0, slots := 0, locals := 66 } : Room) s m args below meth c H locs 0 0 Q (F0 m 0 ls []) by rw [hH, hlo] at hZ; exact hZ
  clear hH hlo
  unfold sC_HW_lasts at hE
  refine lv_aload_n C.1 C.2.1 dX0_lasts_0 rfl (lv_at hl 0 rfl) ?_
  refine xWg_0_3 q241 C hP dX0_lasts_1 ?_
  refine lv_aload_n C.1 C.2.1 dX0_lasts_4 rfl (lv_at hl 0 rfl) ?_
  refine xWg_0_6 q244 C hP dX0_lasts_5 ?_
  refine xWg_18_4 q191 C hP dX0_lasts_8 ?_
  obtain ⟨r1, hr1, hE⟩ := it_b hE
  refine n_after [5, 6, 19, 20] C.2.2.2.2.2.1 C.2.2.2.2.2.2.2.1 hP hS (va_runV (As := [.ref (ad 19)]) (rest := []) ⟨C.1, C.2.1, hml, C.2.2.1, C.2.2.2.1⟩ (metC_Pet_take l G (fun i => ad (if i < 2 then 5 + i else 19 + (i - 2))) pl _ _ _ _ _ _ _ _   r1 hr1) (cwV (C := RX2) 1 C.2.2.2.1 (lw_V q1076 q796 q797 q82 q798) rfl rfl rfl (by decide +kernel) ⟨Nat.le_of_ble_eq_true rfl, Nat.le_of_ble_eq_true rfl⟩) (n_preV C hP hS [5, 6, 19, 20] sub_xW_ppW_5_19 (by decide) rfl (va_recv C.2.2.2.2.1 hP (ci := 11) (q0 := 5) rfl rfl)) rfl rfl hl.1 rfl (lv_room (Nat.le_of_ble_eq_true rfl)) dX0_lasts_11 ⟨Nat.le_refl _, Nat.le_refl _⟩) xW_av rfl rfl mg_xW_ppW_5_19 (fun H locs hP hS => ?_)
  refine lv_pop C.1 C.2.1 dX0_lasts_14 rfl ?_
  refine lv_iconst (v := 1) C.1 C.2.1 dX0_lasts_15 (by decide) ?_
  refine lv_istore_n (lv' := [(1, .int 1), (0, .ref (ad 0))]) C.1 C.2.1 dX0_lasts_16 rfl hl (by decide) rfl (fun ls hl => ?_)
  exact wC_HW_lasts_h17 C hml   res 2000 1 r1.1 r1.2.1 r1.2.2.1 H locs ls hE hP hS (lv_sub hl [1, 0] rfl) hret
def sC_HW_fill_h5 (x1 : Int32) : Nat → Int32 → (Nat → Int32) → Option ((Nat → Int32))
  | 0, _, _ => none
  | fuel + 1, x2, v_arr =>
    if 8 ≤ x2 then
      some v_arr
    else
      if gi x2 8 then
      sC_HW_fill_h5 x1 fuel (x2 + 1) (upd v_arr (x2).toNatClampNeg x1)
      else none
def sC_HW_fill (v_arr : Nat → Int32) (p1 : Int32) : Option ((Nat → Int32)) :=
  (sC_HW_fill_h5 p1 2000 0 v_arr).bind fun u1 =>
  some u1
set_option maxHeartbeats 4000000 in
theorem wC_HW_fill_h5 {p : Program} {l : Launch} {e : Env} {s : State} {m : MethodId} {args : Array Value} {below : List Frame} {meth : Method} {c : Code} {Q : State → Prop} {G : kG} {ad : Nat → Nat} {pl : va_W}  (C : nC p s m args c cJ12_fill RJ12 G (aWV ad) pl (nA (aWV ad))) (hml : c.maxLocals = 4)  (x1 : Int32) (res : (Nat → Int32)) :
    ∀ (fuel : Nat) (x2 : Int32) (v_arr : Nat → Int32) (H : Heap) (locs : List Loc) (ls : Array Slot), sC_HW_fill_h5 x1 fuel x2 v_arr = some res → va_P G.1 vwCl (aW G.2 ad v_arr) H → va_S (nA (aWV ad)) s.heap H locs → lv_has ls 4 [(0, .ref (ad 0)), (1, .int x1), (2, .int x2), (3, .int 8)] → (∀ (H : Heap) (locs : List Loc) (ls : Array Slot), va_P G.1 vwCl (aW G.2 ad res) H → va_S (nA (aWV ad)) s.heap H locs → lv_has ls 4 [] → W p l e ({ frames := 0, cells := 0, slots := 0, locals := 0 } : Room) s m args below meth c H locs 0 0 Q (F0 m 20 ls [])) → W p l e ({ frames := 0, cells := 0, slots := 0, locals := 0 } : Room) s m args below meth c H locs 0 0 Q (F0 m 5 ls []) := by
  intro fuel
  induction fuel with
  | zero =>
    intro x2 v_arr H locs ls hE
    exact it_n hE
  | succ fuel ih =>
    intro x2 v_arr H locs ls hE hP hS hl hX
    rw [sC_HW_fill_h5] at hE
    refine lv_iload_n C.1 C.2.1 dJ12_fill_5 rfl (lv_at hl 2 rfl) ?_
    refine lv_iload_n C.1 C.2.1 dJ12_fill_6 rfl (lv_at hl 3 rfl) ?_
    refine lv_icmp_ge (tgt := 20) C.1 C.2.1 dJ12_fill_7 (by decide) (fun c601 => ?_) (fun c601 => ?_)
    · have hE := it_t c601 hE
      obtain rfl := Option.some.inj hE
      exact hX H locs ls hP hS (lv_sub hl [] rfl)
    · have hE := it_f c601 hE
      refine lv_aload_n C.1 C.2.1 dJ12_fill_10 rfl (lv_at hl 0 rfl) ?_
      refine lv_iload_n C.1 C.2.1 dJ12_fill_11 rfl (lv_at hl 2 rfl) ?_
      refine lv_iload_n C.1 C.2.1 dJ12_fill_12 rfl (lv_at hl 1 rfl) ?_
      obtain ⟨g602, hE⟩ := it_g hE
      refine aWs_0 C hP hS (gi_in g602) dJ12_fill_13 (fun H locs hP hS => ?_)
      refine lv_iinc (v := (x2 + 1)) (lv' := [(2, .int (x2 + 1)), (0, .ref (ad 0)), (1, .int x1), (3, .int 8)]) C.1 C.2.1 dJ12_fill_14 hl (k := 2) rfl rfl (by decide) rfl (fun ls hl => ?_)
      refine lv_goto (tgt := 5) C.1 C.2.1 dJ12_fill_17 (by decide) ?_
      exact ih (x2 + 1) (upd v_arr (x2).toNatClampNeg x1) _ _ _ hE hP hS (lv_sub hl [1, 2, 0, 3] rfl) hX
set_option maxHeartbeats 4000000 in
theorem metC_HW_fill (l : Launch) (G : kG) (ad : Nat → Nat) (pl : va_W) (v_arr : Nat → Int32) (p1 : Int32) (res : (Nat → Int32)) (hE : sC_HW_fill v_arr p1 = some res) : Met l yJ12_fill (ws_ yJ12_fill cJ12_fill 4 none) ({ frames := 0, cells := 0, slots := 0, locals := 0 } : Room) (nPc G (aW G.2 ad v_arr) pl (aWV ad) [.ref (ad 0), .int p1]) (nQc G (aW G.2 ad res) (aWV ad) none) 0 0 (nA (aWV ad)) := by
  refine n_ofW (own := RJ12) (by decide) rfl (Nat.le_of_ble_eq_true rfl) ?_
  intro p e s m args below meth c ls C hml hP hS hl hr hlocks
  have hl : lv_has ls 4 [(0, .ref (ad 0)), (1, .int p1)] := hl
  obtain ⟨Q, hQ⟩ : ∃ Q, Q = MQ below (nQc G (aW G.2 ad res) (aWV ad) none) args s 0 0 (nA (aWV ad)) := ⟨_, rfl⟩
  rw [← hQ]
  have hret : ∀ (pc : Nat) (ls : Array Slot) (H : Heap) (locs : List Loc), decode cJ12_fill pc = .ok (.return_, 1) → va_P G.1 vwCl (aW G.2 ad res) H → va_S (nA (aWV ad)) s.heap H locs → W p l e ({ frames := 0, cells := 0, slots := 0, locals := 0 } : Room) s m args below meth c H locs 0 0 Q (F0 m pc ls []) := by
    intro pc ls H locs hd hP hS
    rw [hQ]
    exact n_vret C hr hlocks hd hP hS
  clear hQ
  obtain ⟨H, hH⟩ : ∃ H, H = s.heap := ⟨_, rfl⟩
  obtain ⟨locs, hlo⟩ : ∃ locs : List Loc, locs = [] := ⟨_, rfl⟩
  have hP : va_P G.1 vwCl (aW G.2 ad v_arr) H := by rw [hH]; exact hP
  have hS : va_S (nA (aWV ad)) s.heap H locs := by rw [hH, hlo]; exact hS
  suffices hZ : W p l e ({ frames := 0, cells := 0, slots := 0, locals := 0 } : Room) s m args below meth c H locs 0 0 Q (F0 m 0 ls []) by rw [hH, hlo] at hZ; exact hZ
  clear hH hlo
  unfold sC_HW_fill at hE
  refine lv_iconst (v := 0) C.1 C.2.1 dJ12_fill_0 (by decide) ?_
  refine lv_istore_n (lv' := [(2, .int 0), (0, .ref (ad 0)), (1, .int p1)]) C.1 C.2.1 dJ12_fill_1 rfl hl (by decide) rfl (fun ls hl => ?_)
  refine lv_aload_n C.1 C.2.1 dJ12_fill_2 rfl (lv_at hl 1 rfl) ?_
  refine aWn_0 C hP dJ12_fill_3 ?_
  refine lv_istore_n (lv' := [(3, .int 8), (2, .int 0), (0, .ref (ad 0)), (1, .int p1)]) C.1 C.2.1 dJ12_fill_4 rfl hl (by decide) rfl (fun ls hl => ?_)
  obtain ⟨u1, hu1, hE⟩ := it_b hE
  refine wC_HW_fill_h5 C hml  p1 u1 2000 0 v_arr H locs ls hu1 hP hS (lv_sub hl [2, 3, 1, 0] rfl) (fun H locs ls hP hS hl => ?_)
  obtain rfl := Option.some.inj hE
  exact hret _ _ _ _ dJ12_fill_20 hP hS
def sC_HW_anew (v_many : Int32) (v_last : Int32) (v_had : Nat → Int32) : Option (Int32 × Int32 × (Nat → Int32)) :=
  (sC_Room_hadSum v_many v_had).bind fun r1 =>
  (sC_HW_fill v_had 0).bind fun r2 =>
  some (r1, (-1), r2)
set_option maxHeartbeats 4000000 in
theorem metC_HW_anew (l : Launch) (G : kG) (ad : Nat → Nat) (pl : va_W) (v_latestFault : Int32) (v_died : Int32) (v_leastWeight : Int32) (v_noticedBy : Int32) (v_noticed : Int32) (v_orderDied : Int32) (v_orderLeast : Int32) (v_imaged : Option Nat) (v_shelves : Nat → Option Nat) (v_refusals : Nat → Int32) (v_ran : Int32) (v_bodies : Nat → Int32) (v_tweight : Int32) (v_tfright : Int32) (v_tage : Int32) (v_tasked : Nat → Int32) (v_told : Nat → Int32) (v_bestRow : Nat → Int32) (v_weight_a1 : Int32) (v_fright_a1 : Int32) (v_age_a1 : Int32) (v_asked_a1 : Nat → Int32) (v_weight_a2 : Int32) (v_fright_a2 : Int32) (v_age_a2 : Int32) (v_asked_a2 : Nat → Int32) (v_weight_a3 : Int32) (v_fright_a3 : Int32) (v_age_a3 : Int32) (v_asked_a3 : Nat → Int32) (v_weight_a4 : Int32) (v_fright_a4 : Int32) (v_age_a4 : Int32) (v_asked_a4 : Nat → Int32) (v_many : Int32) (v_pets : Int32) (v_last : Int32) (v_seed : Int32) (v_weight : Int32) (v_fright : Int32) (v_age : Int32) (v_asked : Nat → Int32) (v_homes : Nat → Option Nat) (v_marks : Nat → Int32) (v_had : Nat → Int32) (v_allergic : Nat → Int32) (v_deaths : Nat → Int32)  (res : Int32 × Int32 × (Nat → Int32)) (hE : sC_HW_anew v_many v_last v_had = some res) : Met l yX0_anew (ws_ yX0_anew cX0_anew 2 (some .int)) ({ frames := 1, cells := 0, slots := 0, locals := 23 } : Room) (nPc G (xW G.2 ad v_latestFault v_died v_leastWeight v_noticedBy v_noticed v_orderDied v_orderLeast v_imaged v_shelves v_refusals v_ran v_bodies v_tweight v_tfright v_tage v_tasked v_told v_bestRow v_weight_a1 v_fright_a1 v_age_a1 v_asked_a1 v_weight_a2 v_fright_a2 v_age_a2 v_asked_a2 v_weight_a3 v_fright_a3 v_age_a3 v_asked_a3 v_weight_a4 v_fright_a4 v_age_a4 v_asked_a4 v_many v_pets v_last v_seed v_weight v_fright v_age v_asked v_homes v_marks v_had v_allergic v_deaths) pl (xWV ad) [.ref (ad 0)]) (nQc G (xW G.2 ad v_latestFault v_died v_leastWeight v_noticedBy v_noticed v_orderDied v_orderLeast v_imaged v_shelves v_refusals v_ran v_bodies v_tweight v_tfright v_tage v_tasked v_told v_bestRow v_weight_a1 v_fright_a1 v_age_a1 v_asked_a1 v_weight_a2 v_fright_a2 v_age_a2 v_asked_a2 v_weight_a3 v_fright_a3 v_age_a3 v_asked_a3 v_weight_a4 v_fright_a4 v_age_a4 v_asked_a4 v_many v_pets res.2.1 v_seed v_weight v_fright v_age v_asked v_homes v_marks res.2.2 v_allergic v_deaths) (xWV ad) (some (.int res.1))) 0 0 (nA (xWV ad)) := by
  refine n_ofW (own := RX0) (by decide) rfl (Nat.le_of_ble_eq_true rfl) ?_
  intro p e s m args below meth c ls C hml hP hS hl hr hlocks
  have hl : lv_has ls 2 [(0, .ref (ad 0))] := hl
  obtain ⟨Q, hQ⟩ : ∃ Q, Q = MQ below (nQc G (xW G.2 ad v_latestFault v_died v_leastWeight v_noticedBy v_noticed v_orderDied v_orderLeast v_imaged v_shelves v_refusals v_ran v_bodies v_tweight v_tfright v_tage v_tasked v_told v_bestRow v_weight_a1 v_fright_a1 v_age_a1 v_asked_a1 v_weight_a2 v_fright_a2 v_age_a2 v_asked_a2 v_weight_a3 v_fright_a3 v_age_a3 v_asked_a3 v_weight_a4 v_fright_a4 v_age_a4 v_asked_a4 v_many v_pets res.2.1 v_seed v_weight v_fright v_age v_asked v_homes v_marks res.2.2 v_allergic v_deaths) (xWV ad) (some (.int res.1))) args s 0 0 (nA (xWV ad)) := ⟨_, rfl⟩
  rw [← hQ]
  have hret : ∀ (pc : Nat) (ls : Array Slot) (H : Heap) (locs : List Loc), decode cX0_anew pc = .ok (.ireturn, 1) → va_P G.1 vwCl (xW G.2 ad v_latestFault v_died v_leastWeight v_noticedBy v_noticed v_orderDied v_orderLeast v_imaged v_shelves v_refusals v_ran v_bodies v_tweight v_tfright v_tage v_tasked v_told v_bestRow v_weight_a1 v_fright_a1 v_age_a1 v_asked_a1 v_weight_a2 v_fright_a2 v_age_a2 v_asked_a2 v_weight_a3 v_fright_a3 v_age_a3 v_asked_a3 v_weight_a4 v_fright_a4 v_age_a4 v_asked_a4 v_many v_pets res.2.1 v_seed v_weight v_fright v_age v_asked v_homes v_marks res.2.2 v_allergic v_deaths) H → va_S (nA (xWV ad)) s.heap H locs → W p l e ({ frames := 1, cells := 0, slots := 0, locals := 23 } : Room) s m args below meth c H locs 0 0 Q (F0 m pc ls [(.int res.1)]) := by
    intro pc ls H locs hd hP hS
    rw [hQ]
    exact n_iret C hr hlocks hd hP hS
  clear hQ
  obtain ⟨H, hH⟩ : ∃ H, H = s.heap := ⟨_, rfl⟩
  obtain ⟨locs, hlo⟩ : ∃ locs : List Loc, locs = [] := ⟨_, rfl⟩
  have hP : va_P G.1 vwCl (xW G.2 ad v_latestFault v_died v_leastWeight v_noticedBy v_noticed v_orderDied v_orderLeast v_imaged v_shelves v_refusals v_ran v_bodies v_tweight v_tfright v_tage v_tasked v_told v_bestRow v_weight_a1 v_fright_a1 v_age_a1 v_asked_a1 v_weight_a2 v_fright_a2 v_age_a2 v_asked_a2 v_weight_a3 v_fright_a3 v_age_a3 v_asked_a3 v_weight_a4 v_fright_a4 v_age_a4 v_asked_a4 v_many v_pets v_last v_seed v_weight v_fright v_age v_asked v_homes v_marks v_had v_allergic v_deaths) H := by rw [hH]; exact hP
  have hS : va_S (nA (xWV ad)) s.heap H locs := by rw [hH, hlo]; exact hS
  suffices hZ : W p l e ({ frames := 1, cells := 0, slots := 0, locals := 23 } : Room) s m args below meth c H locs 0 0 Q (F0 m 0 ls []) by rw [hH, hlo] at hZ; exact hZ
  clear hH hlo
  unfold sC_HW_anew at hE
  refine lv_aload_n C.1 C.2.1 dX0_anew_0 rfl (lv_at hl 0 rfl) ?_
  refine xWg_0_6 q244 C hP dX0_anew_1 ?_
  obtain ⟨r1, hr1, hE⟩ := it_b hE
  refine n_after [18, 19, 20, 21, 22, 23, 24, 25] C.2.2.2.2.2.1 C.2.2.2.2.2.2.2.1 hP hS (va_runV (As := []) (rest := []) ⟨C.1, C.2.1, hml, C.2.2.1, C.2.2.2.1⟩ (metC_Room_hadSum l G (fun i => ad (18 + i)) pl _ _ _ _ _ _ _ _ _ _ _ _ _   r1 hr1) (cwV (C := RX3) 0 C.2.2.2.1 (lw_V q1208 q1209 q1210 q83 q1211) rfl rfl rfl (by decide +kernel) ⟨Nat.le_of_ble_eq_true rfl, Nat.le_of_ble_eq_true rfl⟩) (n_preV C hP hS [18, 19, 20, 21, 22, 23, 24, 25] sub_xW_rW_18 (by decide) rfl (va_recv C.2.2.2.2.1 hP (ci := 12) (q0 := 18) rfl rfl)) rfl rfl hl.1 rfl (lv_room (Nat.le_of_ble_eq_true rfl)) dX0_anew_4 ⟨Nat.le_refl _, Nat.le_refl _⟩) xW_av rfl rfl mg_xW_rW_18 (fun H locs hP hS => ?_)
  refine lv_istore_n (lv' := [(1, .int r1), (0, .ref (ad 0))]) C.1 C.2.1 dX0_anew_7 rfl hl (by decide) rfl (fun ls hl => ?_)
  refine lv_aload_n C.1 C.2.1 dX0_anew_8 rfl (lv_at hl 1 rfl) ?_
  refine xWg_0_6 q244 C hP dX0_anew_9 ?_
  refine xWg_18_7 q199 C hP dX0_anew_12 ?_
  refine lv_iconst (v := 0) C.1 C.2.1 dX0_anew_15 (by decide) ?_
  obtain ⟨r2, hr2, hE⟩ := it_b hE
  refine n_after [23] C.2.2.2.2.2.1 C.2.2.2.2.2.2.2.1 hP hS (va_runS (As := [.ref (ad 23), .int 0]) (rest := []) ⟨C.1, C.2.1, hml, C.2.2.1, C.2.2.2.1⟩ (metC_HW_fill l G (fun i => ad (23 + i)) pl _ 0  r2 hr2) (va_cwS 2 C.2.2.2.1 (lw_S q1212 q1213 q114 q1214) rfl rfl rfl (by decide +kernel) ⟨Nat.le_of_ble_eq_true rfl, Nat.le_of_ble_eq_true rfl⟩) (n_preS C hP hS [23] sub_xW_aW_23 (by decide) rfl) rfl rfl hl.1 rfl (lv_room (Nat.le_of_ble_eq_true rfl)) dX0_anew_16 ⟨Nat.le_refl _, Nat.le_refl _⟩) xW_av rfl rfl mg_xW_aW_23 (fun H locs hP hS => ?_)
  refine lv_aload_n C.1 C.2.1 dX0_anew_19 rfl (lv_at hl 1 rfl) ?_
  refine xWg_0_6 q244 C hP dX0_anew_20 ?_
  refine lv_iconst (v := (-1)) C.1 C.2.1 dX0_anew_23 (by decide) ?_
  refine xWp_18_2 q186 C hP hS dX0_anew_24 (fun H locs hP hS => ?_)
  refine lv_iload_n C.1 C.2.1 dX0_anew_27 rfl (lv_at hl 0 rfl) ?_
  obtain rfl := Option.some.inj hE
  exact hret _ _ _ _ dX0_anew_28 hP hS
def sC_HW_act (v_ran : Int32) (v_bodies : Nat → Int32) (v_many : Int32) (v_homes : Nat → Option Nat) (hk : Nat → Nat) (hb : Nat → Int32) (p1 : Int32) (p2 : Int32) (p3 : Int32) : Option (Int32 × Int32 × (Nat → Int32)) :=
  (sC_Room_isHome v_many p1).bind fun r1 =>
  if r1 = 0 then
    some (0, 0, v_bodies)
  else
    if gi p1 8 then
    if gm p1 v_many then
    if p2 = 0 then
      if (hk (p1).toNatClampNeg) = 0 then
        (sC_Home_feeding_0 0 v_bodies p1 (hb (p1).toNatClampNeg) p3).bind fun r9 =>
        some (r9.1, r9.2.1, r9.2.2)
      else
      if (hk (p1).toNatClampNeg) = 1 then
        (sC_Good_feeding_1 0 v_bodies p1 (hb (p1).toNatClampNeg) p3).bind fun r12 =>
        some (r12.1, r12.2.1, r12.2.2)
      else
      if (hk (p1).toNatClampNeg) = 2 then
        (sC_Home_feeding_2 0 v_bodies p1 (hb (p1).toNatClampNeg) p3).bind fun r15 =>
        some (r15.1, r15.2.1, r15.2.2)
      else
      if (hk (p1).toNatClampNeg) = 3 then
        (sC_Good_feeding_3 0 v_bodies p1 (hb (p1).toNatClampNeg) p3).bind fun r18 =>
        some (r18.1, r18.2.1, r18.2.2)
      else
      if (hk (p1).toNatClampNeg) = 4 then
        (sC_Far_feeding_4 0 v_bodies p1 (hb (p1).toNatClampNeg) p3).bind fun r21 =>
        some (r21.1, r21.2.1, r21.2.2)
      else
      if (hk (p1).toNatClampNeg) = 5 then
        (sC_Home_feeding_5 0 v_bodies p1 (hb (p1).toNatClampNeg) p3).bind fun r24 =>
        some (r24.1, r24.2.1, r24.2.2)
      else
      if (hk (p1).toNatClampNeg) = 6 then
        (sC_Bus_feeding_6 0 v_bodies p1 (hb (p1).toNatClampNeg) p3).bind fun r27 =>
        some (r27.1, r27.2.1, r27.2.2)
      else
      none
    else
    if p2 = 1 then
      if (hk (p1).toNatClampNeg) = 0 then
        (sC_Home_weighing_0 0 v_bodies p1 (hb (p1).toNatClampNeg) p3).bind fun r31 =>
        some (r31.1, r31.2.1, r31.2.2)
      else
      if (hk (p1).toNatClampNeg) = 1 then
        (sC_Home_weighing_1 0 v_bodies p1 (hb (p1).toNatClampNeg) p3).bind fun r34 =>
        some (r34.1, r34.2.1, r34.2.2)
      else
      if (hk (p1).toNatClampNeg) = 2 then
        (sC_Cat_weighing_2 0 v_bodies p1 (hb (p1).toNatClampNeg) p3).bind fun r37 =>
        some (r37.1, r37.2.1, r37.2.2)
      else
      if (hk (p1).toNatClampNeg) = 3 then
        (sC_Overfed_weighing_3 0 v_bodies p1 (hb (p1).toNatClampNeg) p3).bind fun r40 =>
        some (r40.1, r40.2.1, r40.2.2)
      else
      if (hk (p1).toNatClampNeg) = 4 then
        (sC_Home_weighing_4 0 v_bodies p1 (hb (p1).toNatClampNeg) p3).bind fun r43 =>
        some (r43.1, r43.2.1, r43.2.2)
      else
      if (hk (p1).toNatClampNeg) = 5 then
        (sC_Cat_weighing_5 0 v_bodies p1 (hb (p1).toNatClampNeg) p3).bind fun r46 =>
        some (r46.1, r46.2.1, r46.2.2)
      else
      if (hk (p1).toNatClampNeg) = 6 then
        (sC_Bus_weighing_6 0 v_bodies p1 (hb (p1).toNatClampNeg) p3).bind fun r49 =>
        some (r49.1, r49.2.1, r49.2.2)
      else
      none
    else
    if p2 = 2 then
      if (hk (p1).toNatClampNeg) = 0 then
        (sC_Home_writing_0 0 v_bodies p1 (hb (p1).toNatClampNeg) p3).bind fun r53 =>
        some (r53.1, r53.2.1, r53.2.2)
      else
      if (hk (p1).toNatClampNeg) = 1 then
        (sC_Home_writing_1 0 v_bodies p1 (hb (p1).toNatClampNeg) p3).bind fun r56 =>
        some (r56.1, r56.2.1, r56.2.2)
      else
      if (hk (p1).toNatClampNeg) = 2 then
        (sC_Home_writing_2 0 v_bodies p1 (hb (p1).toNatClampNeg) p3).bind fun r59 =>
        some (r59.1, r59.2.1, r59.2.2)
      else
      if (hk (p1).toNatClampNeg) = 3 then
        (sC_Home_writing_3 0 v_bodies p1 (hb (p1).toNatClampNeg) p3).bind fun r62 =>
        some (r62.1, r62.2.1, r62.2.2)
      else
      if (hk (p1).toNatClampNeg) = 4 then
        (sC_Far_writing_4 0 v_bodies p1 (hb (p1).toNatClampNeg) p3).bind fun r65 =>
        some (r65.1, r65.2.1, r65.2.2)
      else
      if (hk (p1).toNatClampNeg) = 5 then
        (sC_Dog_writing_5 0 v_bodies p1 (hb (p1).toNatClampNeg) p3).bind fun r68 =>
        some (r68.1, r68.2.1, r68.2.2)
      else
      if (hk (p1).toNatClampNeg) = 6 then
        (sC_Far_writing_6 0 v_bodies p1 (hb (p1).toNatClampNeg) p3).bind fun r71 =>
        some (r71.1, r71.2.1, r71.2.2)
      else
      none
    else
    some (0, 0, v_bodies)
    else none
    else none
set_option maxHeartbeats 4000000 in
theorem metC_HW_act (l : Launch) (G : kG) (ad : Nat → Nat) (pl : va_W) (hk : Nat → Nat) (hb : Nat → Int32) (v_latestFault : Int32) (v_died : Int32) (v_leastWeight : Int32) (v_noticedBy : Int32) (v_noticed : Int32) (v_orderDied : Int32) (v_orderLeast : Int32) (v_imaged : Option Nat) (v_shelves : Nat → Option Nat) (v_refusals : Nat → Int32) (v_ran : Int32) (v_bodies : Nat → Int32) (v_tweight : Int32) (v_tfright : Int32) (v_tage : Int32) (v_tasked : Nat → Int32) (v_told : Nat → Int32) (v_bestRow : Nat → Int32) (v_weight_a1 : Int32) (v_fright_a1 : Int32) (v_age_a1 : Int32) (v_asked_a1 : Nat → Int32) (v_weight_a2 : Int32) (v_fright_a2 : Int32) (v_age_a2 : Int32) (v_asked_a2 : Nat → Int32) (v_weight_a3 : Int32) (v_fright_a3 : Int32) (v_age_a3 : Int32) (v_asked_a3 : Nat → Int32) (v_weight_a4 : Int32) (v_fright_a4 : Int32) (v_age_a4 : Int32) (v_asked_a4 : Nat → Int32) (v_many : Int32) (v_pets : Int32) (v_last : Int32) (v_seed : Int32) (v_weight : Int32) (v_fright : Int32) (v_age : Int32) (v_asked : Nat → Int32) (v_homes : Nat → Option Nat) (v_marks : Nat → Int32) (v_had : Nat → Int32) (v_allergic : Nat → Int32) (v_deaths : Nat → Int32) (hom : homOK v_homes v_many hk hb pl) (p1 : Int32) (p2 : Int32) (p3 : Int32) (res : Int32 × Int32 × (Nat → Int32)) (hE : sC_HW_act v_ran v_bodies v_many v_homes hk hb p1 p2 p3 = some res) : Met l yX0_act (ws_ yX0_act cX0_act 5 (some .int)) ({ frames := 8, cells := 0, slots := 0, locals := 176 } : Room) (nPc G (xW G.2 ad v_latestFault v_died v_leastWeight v_noticedBy v_noticed v_orderDied v_orderLeast v_imaged v_shelves v_refusals v_ran v_bodies v_tweight v_tfright v_tage v_tasked v_told v_bestRow v_weight_a1 v_fright_a1 v_age_a1 v_asked_a1 v_weight_a2 v_fright_a2 v_age_a2 v_asked_a2 v_weight_a3 v_fright_a3 v_age_a3 v_asked_a3 v_weight_a4 v_fright_a4 v_age_a4 v_asked_a4 v_many v_pets v_last v_seed v_weight v_fright v_age v_asked v_homes v_marks v_had v_allergic v_deaths) pl (xWV ad) [.ref (ad 0), .int p1, .int p2, .int p3]) (nQc G (xW G.2 ad v_latestFault v_died v_leastWeight v_noticedBy v_noticed v_orderDied v_orderLeast v_imaged v_shelves v_refusals res.2.1 res.2.2 v_tweight v_tfright v_tage v_tasked v_told v_bestRow v_weight_a1 v_fright_a1 v_age_a1 v_asked_a1 v_weight_a2 v_fright_a2 v_age_a2 v_asked_a2 v_weight_a3 v_fright_a3 v_age_a3 v_asked_a3 v_weight_a4 v_fright_a4 v_age_a4 v_asked_a4 v_many v_pets v_last v_seed v_weight v_fright v_age v_asked v_homes v_marks v_had v_allergic v_deaths) (xWV ad) (some (.int res.1))) 0 0 (nA (xWV ad)) := by
  refine n_ofW (own := RX0) (by decide) rfl (Nat.le_of_ble_eq_true rfl) ?_
  intro p e s m args below meth c ls C hml hP hS hl hr hlocks
  have hl : lv_has ls 5 [(0, .ref (ad 0)), (1, .int p1), (2, .int p2), (3, .int p3)] := hl
  obtain ⟨Q, hQ⟩ : ∃ Q, Q = MQ below (nQc G (xW G.2 ad v_latestFault v_died v_leastWeight v_noticedBy v_noticed v_orderDied v_orderLeast v_imaged v_shelves v_refusals res.2.1 res.2.2 v_tweight v_tfright v_tage v_tasked v_told v_bestRow v_weight_a1 v_fright_a1 v_age_a1 v_asked_a1 v_weight_a2 v_fright_a2 v_age_a2 v_asked_a2 v_weight_a3 v_fright_a3 v_age_a3 v_asked_a3 v_weight_a4 v_fright_a4 v_age_a4 v_asked_a4 v_many v_pets v_last v_seed v_weight v_fright v_age v_asked v_homes v_marks v_had v_allergic v_deaths) (xWV ad) (some (.int res.1))) args s 0 0 (nA (xWV ad)) := ⟨_, rfl⟩
  rw [← hQ]
  have hret : ∀ (pc : Nat) (ls : Array Slot) (H : Heap) (locs : List Loc), decode cX0_act pc = .ok (.ireturn, 1) → va_P G.1 vwCl (xW G.2 ad v_latestFault v_died v_leastWeight v_noticedBy v_noticed v_orderDied v_orderLeast v_imaged v_shelves v_refusals res.2.1 res.2.2 v_tweight v_tfright v_tage v_tasked v_told v_bestRow v_weight_a1 v_fright_a1 v_age_a1 v_asked_a1 v_weight_a2 v_fright_a2 v_age_a2 v_asked_a2 v_weight_a3 v_fright_a3 v_age_a3 v_asked_a3 v_weight_a4 v_fright_a4 v_age_a4 v_asked_a4 v_many v_pets v_last v_seed v_weight v_fright v_age v_asked v_homes v_marks v_had v_allergic v_deaths) H → va_S (nA (xWV ad)) s.heap H locs → W p l e ({ frames := 8, cells := 0, slots := 0, locals := 176 } : Room) s m args below meth c H locs 0 0 Q (F0 m pc ls [(.int res.1)]) := by
    intro pc ls H locs hd hP hS
    rw [hQ]
    exact n_iret C hr hlocks hd hP hS
  clear hQ
  obtain ⟨H, hH⟩ : ∃ H, H = s.heap := ⟨_, rfl⟩
  obtain ⟨locs, hlo⟩ : ∃ locs : List Loc, locs = [] := ⟨_, rfl⟩
  have hP : va_P G.1 vwCl (xW G.2 ad v_latestFault v_died v_leastWeight v_noticedBy v_noticed v_orderDied v_orderLeast v_imaged v_shelves v_refusals v_ran v_bodies v_tweight v_tfright v_tage v_tasked v_told v_bestRow v_weight_a1 v_fright_a1 v_age_a1 v_asked_a1 v_weight_a2 v_fright_a2 v_age_a2 v_asked_a2 v_weight_a3 v_fright_a3 v_age_a3 v_asked_a3 v_weight_a4 v_fright_a4 v_age_a4 v_asked_a4 v_many v_pets v_last v_seed v_weight v_fright v_age v_asked v_homes v_marks v_had v_allergic v_deaths) H := by rw [hH]; exact hP
  have hS : va_S (nA (xWV ad)) s.heap H locs := by rw [hH, hlo]; exact hS
  suffices hZ : W p l e ({ frames := 8, cells := 0, slots := 0, locals := 176 } : Room) s m args below meth c H locs 0 0 Q (F0 m 0 ls []) by rw [hH, hlo] at hZ; exact hZ
  clear hH hlo
  unfold sC_HW_act at hE
  refine lv_aload_n C.1 C.2.1 dX0_act_0 rfl (lv_at hl 0 rfl) ?_
  refine xWg_0_2 q240 C hP dX0_act_1 ?_
  refine lv_iconst (v := 0) C.1 C.2.1 dX0_act_4 (by decide) ?_
  refine xWp_3_1 q134 C hP hS dX0_act_5 (fun H locs hP hS => ?_)
  refine lv_aload_n C.1 C.2.1 dX0_act_8 rfl (lv_at hl 0 rfl) ?_
  refine xWg_0_6 q244 C hP dX0_act_9 ?_
  refine lv_iload_n C.1 C.2.1 dX0_act_12 rfl (lv_at hl 1 rfl) ?_
  obtain ⟨r1, hr1, hE⟩ := it_b hE
  refine n_after [18, 19, 20, 21, 22, 23, 24, 25] C.2.2.2.2.2.1 C.2.2.2.2.2.2.2.1 hP hS (va_runV (As := [.int p1]) (rest := []) ⟨C.1, C.2.1, hml, C.2.2.1, C.2.2.2.1⟩ (metC_Room_isHome l G (fun i => ad (18 + i)) pl _ _ _ _ _ _ _ _ _ _ _ _ _ p1  r1 hr1) (cwV (C := RX3) 1 C.2.2.2.1 (lw_V q581 q582 q583 q83 q584) rfl rfl rfl (by decide +kernel) ⟨Nat.le_of_ble_eq_true rfl, Nat.le_of_ble_eq_true rfl⟩) (n_preV C hP hS [18, 19, 20, 21, 22, 23, 24, 25] sub_xW_rW_18 (by decide) rfl (va_recv C.2.2.2.2.1 hP (ci := 12) (q0 := 18) rfl rfl)) rfl rfl hl.1 rfl (lv_room (Nat.le_of_ble_eq_true rfl)) dX0_act_13 ⟨Nat.le_refl _, Nat.le_refl _⟩) xW_av rfl rfl mg_xW_rW_18 (fun H locs hP hS => ?_)
  refine lv_if_ne (tgt := 21) C.1 C.2.1 dX0_act_16 (by decide) (fun c2 => ?_) (fun c2 => ?_)
  · have hE := it_f c2 hE
    refine lv_aload_n C.1 C.2.1 dX0_act_21 rfl (lv_at hl 0 rfl) ?_
    refine xWg_0_6 q244 C hP dX0_act_22 ?_
    refine xWg_18_5 q193 C hP dX0_act_25 ?_
    refine lv_iload_n C.1 C.2.1 dX0_act_28 rfl (lv_at hl 1 rfl) ?_
    obtain ⟨g3, hE⟩ := it_g hE
    obtain ⟨g4, hE⟩ := it_g hE
    obtain ⟨q5, hq50, hq5, hq57⟩ := hom _ g4
    refine xWl_21 (v := some q5) C hP (gi_in g3) hq50 dX0_act_29 ?_
    refine lv_astore (lv' := [(4, .ref q5), (0, .ref (ad 0)), (1, .int p1), (2, .int p2), (3, .int p3)]) C.1 C.2.1 dX0_act_30 hl (by decide) rfl (fun ls hl => ?_)
    refine lv_iload_n C.1 C.2.1 dX0_act_32 rfl (lv_at hl 3 rfl) ?_
    by_cases c6 : p2 = 0
    · have hE := it_t c6 hE
      refine lv_tableIn (tgt := 60) C.1 C.2.1 dX0_act_33 (by rw [c6]; decide) (by rw [c6]; decide) (by rw [c6]; rfl) (by decide) ?_
      refine lv_aload C.1 C.2.1 dX0_act_60 (lv_at hl 0 rfl) ?_
      refine lv_iload_n C.1 C.2.1 dX0_act_62 rfl (lv_at hl 4 rfl) ?_
      refine lv_aload_n C.1 C.2.1 dX0_act_63 rfl (lv_at hl 1 rfl) ?_
      refine xWg_0_2 q240 C hP dX0_act_64 ?_
      by_cases c7 : (hk (p1).toNatClampNeg) = 0
      · have hE := it_t c7 hE
        have hq8 := hq5
        rw [c7] at hq8
        obtain ⟨r9, hr9, hE⟩ := it_b hE
        refine n_after [3, 4] C.2.2.2.2.2.1 C.2.2.2.2.2.2.2.1 hP hS (va_runV (As := [.int p3, .ref (ad 3)]) (rest := []) ⟨C.1, C.2.1, hml, C.2.2.1, C.2.2.2.1⟩ (metC_Home_feeding_0 l G (fun i => ad (3 + i)) pl _ _ q5 p1 (hb (p1).toNatClampNeg) p3 hq8 r9 hr9) (cwV (C := RX12) 2 C.2.2.2.1 (lw_V q1223 q1224 q1225 q102 q1248) rfl rfl rfl (by decide +kernel) ⟨Nat.le_of_ble_eq_true rfl, Nat.le_of_ble_eq_true rfl⟩) (n_preV C hP hS [3, 4] sub_xW_tW_3 (by decide) rfl (n_recvH C hS hq8 rfl)) rfl rfl hl.1 rfl (lv_room (Nat.le_of_ble_eq_true rfl)) dX0_act_67 ⟨Nat.le_refl _, Nat.le_refl _⟩) xW_av rfl rfl mg_xW_tW_3 (fun H locs hP hS => ?_)
        obtain rfl := Option.some.inj hE
        exact hret _ _ _ _ dX0_act_70 hP hS
      have hE := it_f c7 hE
      by_cases c10 : (hk (p1).toNatClampNeg) = 1
      · have hE := it_t c10 hE
        have hq11 := hq5
        rw [c10] at hq11
        obtain ⟨r12, hr12, hE⟩ := it_b hE
        refine n_after [3, 4] C.2.2.2.2.2.1 C.2.2.2.2.2.2.2.1 hP hS (va_runU (As := [.int p3, .ref (ad 3)]) (rest := []) ⟨C.1, C.2.1, hml, C.2.2.1, C.2.2.2.1⟩ (metC_Good_feeding_1 l G (fun i => ad (3 + i)) pl _ _ q5 p1 (hb (p1).toNatClampNeg) p3 hq11 r12 hr12) (va_cwO (C := RX13) (owner := "HamsterWeekends$Home") 2 C.2.2.2.1 (lw_O q1223 q1226 q1224 q1242 q1243 q103 q1244) rfl rfl rfl q1248 (by decide +kernel) ⟨Nat.le_of_ble_eq_true rfl, Nat.le_of_ble_eq_true rfl⟩) (n_preV C hP hS [3, 4] sub_xW_tW_3 (by decide) rfl (n_recvH C hS hq11 rfl)) rfl rfl hl.1 rfl (lv_room (Nat.le_of_ble_eq_true rfl)) dX0_act_67 ⟨Nat.le_refl _, Nat.le_refl _⟩) xW_av rfl rfl mg_xW_tW_3 (fun H locs hP hS => ?_)
        obtain rfl := Option.some.inj hE
        exact hret _ _ _ _ dX0_act_70 hP hS
      have hE := it_f c10 hE
      by_cases c13 : (hk (p1).toNatClampNeg) = 2
      · have hE := it_t c13 hE
        have hq14 := hq5
        rw [c13] at hq14
        obtain ⟨r15, hr15, hE⟩ := it_b hE
        refine n_after [3, 4] C.2.2.2.2.2.1 C.2.2.2.2.2.2.2.1 hP hS (va_runU (As := [.int p3, .ref (ad 3)]) (rest := []) ⟨C.1, C.2.1, hml, C.2.2.1, C.2.2.2.1⟩ (metC_Home_feeding_2 l G (fun i => ad (3 + i)) pl _ _ q5 p1 (hb (p1).toNatClampNeg) p3 hq14 r15 hr15) (va_cwU (C := RX14) (owner := "HamsterWeekends$Home") 2 C.2.2.2.1 (lw_U q1223 q1226 q1239 q1224 q102 q1248) rfl rfl rfl rfl (by decide +kernel) ⟨Nat.le_of_ble_eq_true rfl, Nat.le_of_ble_eq_true rfl⟩) (n_preV C hP hS [3, 4] sub_xW_tW_3 (by decide) rfl (n_recvH C hS hq14 rfl)) rfl rfl hl.1 rfl (lv_room (Nat.le_of_ble_eq_true rfl)) dX0_act_67 ⟨Nat.le_refl _, Nat.le_refl _⟩) xW_av rfl rfl mg_xW_tW_3 (fun H locs hP hS => ?_)
        obtain rfl := Option.some.inj hE
        exact hret _ _ _ _ dX0_act_70 hP hS
      have hE := it_f c13 hE
      by_cases c16 : (hk (p1).toNatClampNeg) = 3
      · have hE := it_t c16 hE
        have hq17 := hq5
        rw [c16] at hq17
        obtain ⟨r18, hr18, hE⟩ := it_b hE
        refine n_after [3, 4] C.2.2.2.2.2.1 C.2.2.2.2.2.2.2.1 hP hS (va_runU (As := [.int p3, .ref (ad 3)]) (rest := []) ⟨C.1, C.2.1, hml, C.2.2.1, C.2.2.2.1⟩ (metC_Good_feeding_3 l G (fun i => ad (3 + i)) pl _ _ q5 p1 (hb (p1).toNatClampNeg) p3 hq17 r18 hr18) (va_cwO (C := RX15) (owner := "HamsterWeekends$Home") 2 C.2.2.2.1 (lw_O q1223 q1226 q1224 q1247 q1243 q103 q1244) rfl rfl rfl q1248 (by decide +kernel) ⟨Nat.le_of_ble_eq_true rfl, Nat.le_of_ble_eq_true rfl⟩) (n_preV C hP hS [3, 4] sub_xW_tW_3 (by decide) rfl (n_recvH C hS hq17 rfl)) rfl rfl hl.1 rfl (lv_room (Nat.le_of_ble_eq_true rfl)) dX0_act_67 ⟨Nat.le_refl _, Nat.le_refl _⟩) xW_av rfl rfl mg_xW_tW_3 (fun H locs hP hS => ?_)
        obtain rfl := Option.some.inj hE
        exact hret _ _ _ _ dX0_act_70 hP hS
      have hE := it_f c16 hE
      by_cases c19 : (hk (p1).toNatClampNeg) = 4
      · have hE := it_t c19 hE
        have hq20 := hq5
        rw [c19] at hq20
        obtain ⟨r21, hr21, hE⟩ := it_b hE
        refine n_after [3, 4] C.2.2.2.2.2.1 C.2.2.2.2.2.2.2.1 hP hS (va_runU (As := [.int p3, .ref (ad 3)]) (rest := []) ⟨C.1, C.2.1, hml, C.2.2.1, C.2.2.2.1⟩ (metC_Far_feeding_4 l G (fun i => ad (3 + i)) pl _ _ q5 p1 (hb (p1).toNatClampNeg) p3 hq20 r21 hr21) (va_cwO (C := RX16) (owner := "HamsterWeekends$Home") 2 C.2.2.2.1 (lw_O q1223 q1226 q1224 q1241 q1235 q106 q1236) rfl rfl rfl q1248 (by decide +kernel) ⟨Nat.le_of_ble_eq_true rfl, Nat.le_of_ble_eq_true rfl⟩) (n_preV C hP hS [3, 4] sub_xW_tW_3 (by decide) rfl (n_recvH C hS hq20 rfl)) rfl rfl hl.1 rfl (lv_room (Nat.le_of_ble_eq_true rfl)) dX0_act_67 ⟨Nat.le_refl _, Nat.le_refl _⟩) xW_av rfl rfl mg_xW_tW_3 (fun H locs hP hS => ?_)
        obtain rfl := Option.some.inj hE
        exact hret _ _ _ _ dX0_act_70 hP hS
      have hE := it_f c19 hE
      by_cases c22 : (hk (p1).toNatClampNeg) = 5
      · have hE := it_t c22 hE
        have hq23 := hq5
        rw [c22] at hq23
        obtain ⟨r24, hr24, hE⟩ := it_b hE
        refine n_after [3, 4] C.2.2.2.2.2.1 C.2.2.2.2.2.2.2.1 hP hS (va_runU (As := [.int p3, .ref (ad 3)]) (rest := []) ⟨C.1, C.2.1, hml, C.2.2.1, C.2.2.2.1⟩ (metC_Home_feeding_5 l G (fun i => ad (3 + i)) pl _ _ q5 p1 (hb (p1).toNatClampNeg) p3 hq23 r24 hr24) (va_cwU (C := RX17) (owner := "HamsterWeekends$Home") 2 C.2.2.2.1 (lw_U q1223 q1226 q1240 q1224 q102 q1248) rfl rfl rfl rfl (by decide +kernel) ⟨Nat.le_of_ble_eq_true rfl, Nat.le_of_ble_eq_true rfl⟩) (n_preV C hP hS [3, 4] sub_xW_tW_3 (by decide) rfl (n_recvH C hS hq23 rfl)) rfl rfl hl.1 rfl (lv_room (Nat.le_of_ble_eq_true rfl)) dX0_act_67 ⟨Nat.le_refl _, Nat.le_refl _⟩) xW_av rfl rfl mg_xW_tW_3 (fun H locs hP hS => ?_)
        obtain rfl := Option.some.inj hE
        exact hret _ _ _ _ dX0_act_70 hP hS
      have hE := it_f c22 hE
      by_cases c25 : (hk (p1).toNatClampNeg) = 6
      · have hE := it_t c25 hE
        have hq26 := hq5
        rw [c25] at hq26
        obtain ⟨r27, hr27, hE⟩ := it_b hE
        refine n_after [3, 4] C.2.2.2.2.2.1 C.2.2.2.2.2.2.2.1 hP hS (va_runU (As := [.int p3, .ref (ad 3)]) (rest := []) ⟨C.1, C.2.1, hml, C.2.2.1, C.2.2.2.1⟩ (metC_Bus_feeding_6 l G (fun i => ad (3 + i)) pl _ _ q5 p1 (hb (p1).toNatClampNeg) p3 hq26 r27 hr27) (va_cwO (C := RX18) (owner := "HamsterWeekends$Home") 2 C.2.2.2.1 (lw_O q1223 q1226 q1224 q1227 q1228 q108 q1229) rfl rfl rfl q1248 (by decide +kernel) ⟨Nat.le_of_ble_eq_true rfl, Nat.le_of_ble_eq_true rfl⟩) (n_preV C hP hS [3, 4] sub_xW_tW_3 (by decide) rfl (n_recvH C hS hq26 rfl)) rfl rfl hl.1 rfl (lv_room (Nat.le_of_ble_eq_true rfl)) dX0_act_67 ⟨Nat.le_refl _, Nat.le_refl _⟩) xW_av rfl rfl mg_xW_tW_3 (fun H locs hP hS => ?_)
        obtain rfl := Option.some.inj hE
        exact hret _ _ _ _ dX0_act_70 hP hS
      have hE := it_f c25 hE
      exact it_n hE
    have hE := it_f c6 hE
    by_cases c28 : p2 = 1
    · have hE := it_t c28 hE
      refine lv_tableIn (tgt := 71) C.1 C.2.1 dX0_act_33 (by rw [c28]; decide) (by rw [c28]; decide) (by rw [c28]; rfl) (by decide) ?_
      refine lv_aload C.1 C.2.1 dX0_act_71 (lv_at hl 0 rfl) ?_
      refine lv_iload_n C.1 C.2.1 dX0_act_73 rfl (lv_at hl 4 rfl) ?_
      refine lv_aload_n C.1 C.2.1 dX0_act_74 rfl (lv_at hl 1 rfl) ?_
      refine xWg_0_2 q240 C hP dX0_act_75 ?_
      by_cases c29 : (hk (p1).toNatClampNeg) = 0
      · have hE := it_t c29 hE
        have hq30 := hq5
        rw [c29] at hq30
        obtain ⟨r31, hr31, hE⟩ := it_b hE
        refine n_after [3, 4] C.2.2.2.2.2.1 C.2.2.2.2.2.2.2.1 hP hS (va_runV (As := [.int p3, .ref (ad 3)]) (rest := []) ⟨C.1, C.2.1, hml, C.2.2.1, C.2.2.2.1⟩ (metC_Home_weighing_0 l G (fun i => ad (3 + i)) pl _ _ q5 p1 (hb (p1).toNatClampNeg) p3 hq30 r31 hr31) (cwV (C := RX12) 2 C.2.2.2.1 (lw_V q1250 q1251 q1252 q102 q1274) rfl rfl rfl (by decide +kernel) ⟨Nat.le_of_ble_eq_true rfl, Nat.le_of_ble_eq_true rfl⟩) (n_preV C hP hS [3, 4] sub_xW_tW_3 (by decide) rfl (n_recvH C hS hq30 rfl)) rfl rfl hl.1 rfl (lv_room (Nat.le_of_ble_eq_true rfl)) dX0_act_78 ⟨Nat.le_refl _, Nat.le_refl _⟩) xW_av rfl rfl mg_xW_tW_3 (fun H locs hP hS => ?_)
        obtain rfl := Option.some.inj hE
        exact hret _ _ _ _ dX0_act_81 hP hS
      have hE := it_f c29 hE
      by_cases c32 : (hk (p1).toNatClampNeg) = 1
      · have hE := it_t c32 hE
        have hq33 := hq5
        rw [c32] at hq33
        obtain ⟨r34, hr34, hE⟩ := it_b hE
        refine n_after [3, 4] C.2.2.2.2.2.1 C.2.2.2.2.2.2.2.1 hP hS (va_runU (As := [.int p3, .ref (ad 3)]) (rest := []) ⟨C.1, C.2.1, hml, C.2.2.1, C.2.2.2.1⟩ (metC_Home_weighing_1 l G (fun i => ad (3 + i)) pl _ _ q5 p1 (hb (p1).toNatClampNeg) p3 hq33 r34 hr34) (va_cwU (C := RX13) (owner := "HamsterWeekends$Home") 2 C.2.2.2.1 (lw_U q1250 q1253 q1267 q1251 q102 q1274) rfl rfl rfl rfl (by decide +kernel) ⟨Nat.le_of_ble_eq_true rfl, Nat.le_of_ble_eq_true rfl⟩) (n_preV C hP hS [3, 4] sub_xW_tW_3 (by decide) rfl (n_recvH C hS hq33 rfl)) rfl rfl hl.1 rfl (lv_room (Nat.le_of_ble_eq_true rfl)) dX0_act_78 ⟨Nat.le_refl _, Nat.le_refl _⟩) xW_av rfl rfl mg_xW_tW_3 (fun H locs hP hS => ?_)
        obtain rfl := Option.some.inj hE
        exact hret _ _ _ _ dX0_act_81 hP hS
      have hE := it_f c32 hE
      by_cases c35 : (hk (p1).toNatClampNeg) = 2
      · have hE := it_t c35 hE
        have hq36 := hq5
        rw [c35] at hq36
        obtain ⟨r37, hr37, hE⟩ := it_b hE
        refine n_after [3, 4] C.2.2.2.2.2.1 C.2.2.2.2.2.2.2.1 hP hS (va_runU (As := [.int p3, .ref (ad 3)]) (rest := []) ⟨C.1, C.2.1, hml, C.2.2.1, C.2.2.2.1⟩ (metC_Cat_weighing_2 l G (fun i => ad (3 + i)) pl _ _ q5 p1 (hb (p1).toNatClampNeg) p3 hq36 r37 hr37) (va_cwO (C := RX14) (owner := "HamsterWeekends$Home") 2 C.2.2.2.1 (lw_O q1250 q1253 q1251 q1260 q1261 q104 q1262) rfl rfl rfl q1274 (by decide +kernel) ⟨Nat.le_of_ble_eq_true rfl, Nat.le_of_ble_eq_true rfl⟩) (n_preV C hP hS [3, 4] sub_xW_tW_3 (by decide) rfl (n_recvH C hS hq36 rfl)) rfl rfl hl.1 rfl (lv_room (Nat.le_of_ble_eq_true rfl)) dX0_act_78 ⟨Nat.le_refl _, Nat.le_refl _⟩) xW_av rfl rfl mg_xW_tW_3 (fun H locs hP hS => ?_)
        obtain rfl := Option.some.inj hE
        exact hret _ _ _ _ dX0_act_81 hP hS
      have hE := it_f c35 hE
      by_cases c38 : (hk (p1).toNatClampNeg) = 3
      · have hE := it_t c38 hE
        have hq39 := hq5
        rw [c38] at hq39
        obtain ⟨r40, hr40, hE⟩ := it_b hE
        refine n_after [3, 4] C.2.2.2.2.2.1 C.2.2.2.2.2.2.2.1 hP hS (va_runU (As := [.int p3, .ref (ad 3)]) (rest := []) ⟨C.1, C.2.1, hml, C.2.2.1, C.2.2.2.1⟩ (metC_Overfed_weighing_3 l G (fun i => ad (3 + i)) pl _ _ q5 p1 (hb (p1).toNatClampNeg) p3 hq39 r40 hr40) (va_cwO (C := RX15) (owner := "HamsterWeekends$Home") 2 C.2.2.2.1 (lw_O q1250 q1253 q1251 q1268 q1269 q105 q1270) rfl rfl rfl q1274 (by decide +kernel) ⟨Nat.le_of_ble_eq_true rfl, Nat.le_of_ble_eq_true rfl⟩) (n_preV C hP hS [3, 4] sub_xW_tW_3 (by decide) rfl (n_recvH C hS hq39 rfl)) rfl rfl hl.1 rfl (lv_room (Nat.le_of_ble_eq_true rfl)) dX0_act_78 ⟨Nat.le_refl _, Nat.le_refl _⟩) xW_av rfl rfl mg_xW_tW_3 (fun H locs hP hS => ?_)
        obtain rfl := Option.some.inj hE
        exact hret _ _ _ _ dX0_act_81 hP hS
      have hE := it_f c38 hE
      by_cases c41 : (hk (p1).toNatClampNeg) = 4
      · have hE := it_t c41 hE
        have hq42 := hq5
        rw [c41] at hq42
        obtain ⟨r43, hr43, hE⟩ := it_b hE
        refine n_after [3, 4] C.2.2.2.2.2.1 C.2.2.2.2.2.2.2.1 hP hS (va_runU (As := [.int p3, .ref (ad 3)]) (rest := []) ⟨C.1, C.2.1, hml, C.2.2.1, C.2.2.2.1⟩ (metC_Home_weighing_4 l G (fun i => ad (3 + i)) pl _ _ q5 p1 (hb (p1).toNatClampNeg) p3 hq42 r43 hr43) (va_cwU (C := RX16) (owner := "HamsterWeekends$Home") 2 C.2.2.2.1 (lw_U q1250 q1253 q1266 q1251 q102 q1274) rfl rfl rfl rfl (by decide +kernel) ⟨Nat.le_of_ble_eq_true rfl, Nat.le_of_ble_eq_true rfl⟩) (n_preV C hP hS [3, 4] sub_xW_tW_3 (by decide) rfl (n_recvH C hS hq42 rfl)) rfl rfl hl.1 rfl (lv_room (Nat.le_of_ble_eq_true rfl)) dX0_act_78 ⟨Nat.le_refl _, Nat.le_refl _⟩) xW_av rfl rfl mg_xW_tW_3 (fun H locs hP hS => ?_)
        obtain rfl := Option.some.inj hE
        exact hret _ _ _ _ dX0_act_81 hP hS
      have hE := it_f c41 hE
      by_cases c44 : (hk (p1).toNatClampNeg) = 5
      · have hE := it_t c44 hE
        have hq45 := hq5
        rw [c44] at hq45
        obtain ⟨r46, hr46, hE⟩ := it_b hE
        refine n_after [3, 4] C.2.2.2.2.2.1 C.2.2.2.2.2.2.2.1 hP hS (va_runU (As := [.int p3, .ref (ad 3)]) (rest := []) ⟨C.1, C.2.1, hml, C.2.2.1, C.2.2.2.1⟩ (metC_Cat_weighing_5 l G (fun i => ad (3 + i)) pl _ _ q5 p1 (hb (p1).toNatClampNeg) p3 hq45 r46 hr46) (va_cwO (C := RX17) (owner := "HamsterWeekends$Home") 2 C.2.2.2.1 (lw_O q1250 q1253 q1251 q1265 q1261 q104 q1262) rfl rfl rfl q1274 (by decide +kernel) ⟨Nat.le_of_ble_eq_true rfl, Nat.le_of_ble_eq_true rfl⟩) (n_preV C hP hS [3, 4] sub_xW_tW_3 (by decide) rfl (n_recvH C hS hq45 rfl)) rfl rfl hl.1 rfl (lv_room (Nat.le_of_ble_eq_true rfl)) dX0_act_78 ⟨Nat.le_refl _, Nat.le_refl _⟩) xW_av rfl rfl mg_xW_tW_3 (fun H locs hP hS => ?_)
        obtain rfl := Option.some.inj hE
        exact hret _ _ _ _ dX0_act_81 hP hS
      have hE := it_f c44 hE
      by_cases c47 : (hk (p1).toNatClampNeg) = 6
      · have hE := it_t c47 hE
        have hq48 := hq5
        rw [c47] at hq48
        obtain ⟨r49, hr49, hE⟩ := it_b hE
        refine n_after [3, 4] C.2.2.2.2.2.1 C.2.2.2.2.2.2.2.1 hP hS (va_runU (As := [.int p3, .ref (ad 3)]) (rest := []) ⟨C.1, C.2.1, hml, C.2.2.1, C.2.2.2.1⟩ (metC_Bus_weighing_6 l G (fun i => ad (3 + i)) pl _ _ q5 p1 (hb (p1).toNatClampNeg) p3 hq48 r49 hr49) (va_cwO (C := RX18) (owner := "HamsterWeekends$Home") 2 C.2.2.2.1 (lw_O q1250 q1253 q1251 q1254 q1255 q108 q1256) rfl rfl rfl q1274 (by decide +kernel) ⟨Nat.le_of_ble_eq_true rfl, Nat.le_of_ble_eq_true rfl⟩) (n_preV C hP hS [3, 4] sub_xW_tW_3 (by decide) rfl (n_recvH C hS hq48 rfl)) rfl rfl hl.1 rfl (lv_room (Nat.le_of_ble_eq_true rfl)) dX0_act_78 ⟨Nat.le_refl _, Nat.le_refl _⟩) xW_av rfl rfl mg_xW_tW_3 (fun H locs hP hS => ?_)
        obtain rfl := Option.some.inj hE
        exact hret _ _ _ _ dX0_act_81 hP hS
      have hE := it_f c47 hE
      exact it_n hE
    have hE := it_f c28 hE
    by_cases c50 : p2 = 2
    · have hE := it_t c50 hE
      refine lv_tableIn (tgt := 82) C.1 C.2.1 dX0_act_33 (by rw [c50]; decide) (by rw [c50]; decide) (by rw [c50]; rfl) (by decide) ?_
      refine lv_aload C.1 C.2.1 dX0_act_82 (lv_at hl 0 rfl) ?_
      refine lv_iload_n C.1 C.2.1 dX0_act_84 rfl (lv_at hl 4 rfl) ?_
      refine lv_aload_n C.1 C.2.1 dX0_act_85 rfl (lv_at hl 1 rfl) ?_
      refine xWg_0_2 q240 C hP dX0_act_86 ?_
      by_cases c51 : (hk (p1).toNatClampNeg) = 0
      · have hE := it_t c51 hE
        have hq52 := hq5
        rw [c51] at hq52
        obtain ⟨r53, hr53, hE⟩ := it_b hE
        refine n_after [3, 4] C.2.2.2.2.2.1 C.2.2.2.2.2.2.2.1 hP hS (va_runV (As := [.int p3, .ref (ad 3)]) (rest := []) ⟨C.1, C.2.1, hml, C.2.2.1, C.2.2.2.1⟩ (metC_Home_writing_0 l G (fun i => ad (3 + i)) pl _ _ q5 p1 (hb (p1).toNatClampNeg) p3 hq52 r53 hr53) (cwV (C := RX12) 2 C.2.2.2.1 (lw_V q1276 q1277 q1278 q102 q1295) rfl rfl rfl (by decide +kernel) ⟨Nat.le_of_ble_eq_true rfl, Nat.le_of_ble_eq_true rfl⟩) (n_preV C hP hS [3, 4] sub_xW_tW_3 (by decide) rfl (n_recvH C hS hq52 rfl)) rfl rfl hl.1 rfl (lv_room (Nat.le_of_ble_eq_true rfl)) dX0_act_89 ⟨Nat.le_refl _, Nat.le_refl _⟩) xW_av rfl rfl mg_xW_tW_3 (fun H locs hP hS => ?_)
        obtain rfl := Option.some.inj hE
        exact hret _ _ _ _ dX0_act_92 hP hS
      have hE := it_f c51 hE
      by_cases c54 : (hk (p1).toNatClampNeg) = 1
      · have hE := it_t c54 hE
        have hq55 := hq5
        rw [c54] at hq55
        obtain ⟨r56, hr56, hE⟩ := it_b hE
        refine n_after [3, 4] C.2.2.2.2.2.1 C.2.2.2.2.2.2.2.1 hP hS (va_runU (As := [.int p3, .ref (ad 3)]) (rest := []) ⟨C.1, C.2.1, hml, C.2.2.1, C.2.2.2.1⟩ (metC_Home_writing_1 l G (fun i => ad (3 + i)) pl _ _ q5 p1 (hb (p1).toNatClampNeg) p3 hq55 r56 hr56) (va_cwU (C := RX13) (owner := "HamsterWeekends$Home") 2 C.2.2.2.1 (lw_U q1276 q1279 q1293 q1277 q102 q1295) rfl rfl rfl rfl (by decide +kernel) ⟨Nat.le_of_ble_eq_true rfl, Nat.le_of_ble_eq_true rfl⟩) (n_preV C hP hS [3, 4] sub_xW_tW_3 (by decide) rfl (n_recvH C hS hq55 rfl)) rfl rfl hl.1 rfl (lv_room (Nat.le_of_ble_eq_true rfl)) dX0_act_89 ⟨Nat.le_refl _, Nat.le_refl _⟩) xW_av rfl rfl mg_xW_tW_3 (fun H locs hP hS => ?_)
        obtain rfl := Option.some.inj hE
        exact hret _ _ _ _ dX0_act_92 hP hS
      have hE := it_f c54 hE
      by_cases c57 : (hk (p1).toNatClampNeg) = 2
      · have hE := it_t c57 hE
        have hq58 := hq5
        rw [c57] at hq58
        obtain ⟨r59, hr59, hE⟩ := it_b hE
        refine n_after [3, 4] C.2.2.2.2.2.1 C.2.2.2.2.2.2.2.1 hP hS (va_runU (As := [.int p3, .ref (ad 3)]) (rest := []) ⟨C.1, C.2.1, hml, C.2.2.1, C.2.2.2.1⟩ (metC_Home_writing_2 l G (fun i => ad (3 + i)) pl _ _ q5 p1 (hb (p1).toNatClampNeg) p3 hq58 r59 hr59) (va_cwU (C := RX14) (owner := "HamsterWeekends$Home") 2 C.2.2.2.1 (lw_U q1276 q1279 q1284 q1277 q102 q1295) rfl rfl rfl rfl (by decide +kernel) ⟨Nat.le_of_ble_eq_true rfl, Nat.le_of_ble_eq_true rfl⟩) (n_preV C hP hS [3, 4] sub_xW_tW_3 (by decide) rfl (n_recvH C hS hq58 rfl)) rfl rfl hl.1 rfl (lv_room (Nat.le_of_ble_eq_true rfl)) dX0_act_89 ⟨Nat.le_refl _, Nat.le_refl _⟩) xW_av rfl rfl mg_xW_tW_3 (fun H locs hP hS => ?_)
        obtain rfl := Option.some.inj hE
        exact hret _ _ _ _ dX0_act_92 hP hS
      have hE := it_f c57 hE
      by_cases c60 : (hk (p1).toNatClampNeg) = 3
      · have hE := it_t c60 hE
        have hq61 := hq5
        rw [c60] at hq61
        obtain ⟨r62, hr62, hE⟩ := it_b hE
        refine n_after [3, 4] C.2.2.2.2.2.1 C.2.2.2.2.2.2.2.1 hP hS (va_runU (As := [.int p3, .ref (ad 3)]) (rest := []) ⟨C.1, C.2.1, hml, C.2.2.1, C.2.2.2.1⟩ (metC_Home_writing_3 l G (fun i => ad (3 + i)) pl _ _ q5 p1 (hb (p1).toNatClampNeg) p3 hq61 r62 hr62) (va_cwU (C := RX15) (owner := "HamsterWeekends$Home") 2 C.2.2.2.1 (lw_U q1276 q1279 q1294 q1277 q102 q1295) rfl rfl rfl rfl (by decide +kernel) ⟨Nat.le_of_ble_eq_true rfl, Nat.le_of_ble_eq_true rfl⟩) (n_preV C hP hS [3, 4] sub_xW_tW_3 (by decide) rfl (n_recvH C hS hq61 rfl)) rfl rfl hl.1 rfl (lv_room (Nat.le_of_ble_eq_true rfl)) dX0_act_89 ⟨Nat.le_refl _, Nat.le_refl _⟩) xW_av rfl rfl mg_xW_tW_3 (fun H locs hP hS => ?_)
        obtain rfl := Option.some.inj hE
        exact hret _ _ _ _ dX0_act_92 hP hS
      have hE := it_f c60 hE
      by_cases c63 : (hk (p1).toNatClampNeg) = 4
      · have hE := it_t c63 hE
        have hq64 := hq5
        rw [c63] at hq64
        obtain ⟨r65, hr65, hE⟩ := it_b hE
        refine n_after [3, 4] C.2.2.2.2.2.1 C.2.2.2.2.2.2.2.1 hP hS (va_runU (As := [.int p3, .ref (ad 3)]) (rest := []) ⟨C.1, C.2.1, hml, C.2.2.1, C.2.2.2.1⟩ (metC_Far_writing_4 l G (fun i => ad (3 + i)) pl _ _ q5 p1 (hb (p1).toNatClampNeg) p3 hq64 r65 hr65) (va_cwO (C := RX16) (owner := "HamsterWeekends$Home") 2 C.2.2.2.1 (lw_O q1276 q1279 q1277 q1292 q1281 q106 q1282) rfl rfl rfl q1295 (by decide +kernel) ⟨Nat.le_of_ble_eq_true rfl, Nat.le_of_ble_eq_true rfl⟩) (n_preV C hP hS [3, 4] sub_xW_tW_3 (by decide) rfl (n_recvH C hS hq64 rfl)) rfl rfl hl.1 rfl (lv_room (Nat.le_of_ble_eq_true rfl)) dX0_act_89 ⟨Nat.le_refl _, Nat.le_refl _⟩) xW_av rfl rfl mg_xW_tW_3 (fun H locs hP hS => ?_)
        obtain rfl := Option.some.inj hE
        exact hret _ _ _ _ dX0_act_92 hP hS
      have hE := it_f c63 hE
      by_cases c66 : (hk (p1).toNatClampNeg) = 5
      · have hE := it_t c66 hE
        have hq67 := hq5
        rw [c66] at hq67
        obtain ⟨r68, hr68, hE⟩ := it_b hE
        refine n_after [3, 4] C.2.2.2.2.2.1 C.2.2.2.2.2.2.2.1 hP hS (va_runU (As := [.int p3, .ref (ad 3)]) (rest := []) ⟨C.1, C.2.1, hml, C.2.2.1, C.2.2.2.1⟩ (metC_Dog_writing_5 l G (fun i => ad (3 + i)) pl _ _ q5 p1 (hb (p1).toNatClampNeg) p3 hq67 r68 hr68) (va_cwO (C := RX17) (owner := "HamsterWeekends$Home") 2 C.2.2.2.1 (lw_O q1276 q1279 q1277 q1285 q1286 q107 q1287) rfl rfl rfl q1295 (by decide +kernel) ⟨Nat.le_of_ble_eq_true rfl, Nat.le_of_ble_eq_true rfl⟩) (n_preV C hP hS [3, 4] sub_xW_tW_3 (by decide) rfl (n_recvH C hS hq67 rfl)) rfl rfl hl.1 rfl (lv_room (Nat.le_of_ble_eq_true rfl)) dX0_act_89 ⟨Nat.le_refl _, Nat.le_refl _⟩) xW_av rfl rfl mg_xW_tW_3 (fun H locs hP hS => ?_)
        obtain rfl := Option.some.inj hE
        exact hret _ _ _ _ dX0_act_92 hP hS
      have hE := it_f c66 hE
      by_cases c69 : (hk (p1).toNatClampNeg) = 6
      · have hE := it_t c69 hE
        have hq70 := hq5
        rw [c69] at hq70
        obtain ⟨r71, hr71, hE⟩ := it_b hE
        refine n_after [3, 4] C.2.2.2.2.2.1 C.2.2.2.2.2.2.2.1 hP hS (va_runU (As := [.int p3, .ref (ad 3)]) (rest := []) ⟨C.1, C.2.1, hml, C.2.2.1, C.2.2.2.1⟩ (metC_Far_writing_6 l G (fun i => ad (3 + i)) pl _ _ q5 p1 (hb (p1).toNatClampNeg) p3 hq70 r71 hr71) (va_cwO (C := RX18) (owner := "HamsterWeekends$Home") 2 C.2.2.2.1 (lw_O q1276 q1279 q1277 q1280 q1281 q106 q1282) rfl rfl rfl q1295 (by decide +kernel) ⟨Nat.le_of_ble_eq_true rfl, Nat.le_of_ble_eq_true rfl⟩) (n_preV C hP hS [3, 4] sub_xW_tW_3 (by decide) rfl (n_recvH C hS hq70 rfl)) rfl rfl hl.1 rfl (lv_room (Nat.le_of_ble_eq_true rfl)) dX0_act_89 ⟨Nat.le_refl _, Nat.le_refl _⟩) xW_av rfl rfl mg_xW_tW_3 (fun H locs hP hS => ?_)
        obtain rfl := Option.some.inj hE
        exact hret _ _ _ _ dX0_act_92 hP hS
      have hE := it_f c69 hE
      exact it_n hE
    have hE := it_f c50 hE
    refine lv_tableOut (tgt := 93) C.1 C.2.1 dX0_act_33 (ts_e (ts_s (ts_s (ts_s (ts_0 0) c6 rfl rfl) c28 rfl rfl) c50 rfl rfl) rfl) (by decide) ?_
    refine lv_iconst (v := 0) C.1 C.2.1 dX0_act_93 (by decide) ?_
    obtain rfl := Option.some.inj hE
    exact hret _ _ _ _ dX0_act_94 hP hS
  · have hE := it_t c2 hE
    refine lv_iconst (v := 0) C.1 C.2.1 dX0_act_19 (by decide) ?_
    obtain rfl := Option.some.inj hE
    exact hret _ _ _ _ dX0_act_20 hP hS
