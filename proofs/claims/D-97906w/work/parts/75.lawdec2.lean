/-! the law: decode rows -/
set_option maxRecDepth 100000
theorem dL_892 : decode code 892 = .ok (.ireturn, 1) := by decide +kernel
theorem dL_893 : decode code 893 = .ok (.aload_n 1, 1) := by decide +kernel
theorem dL_894 : decode code 894 = .ok (.aload_n 0, 1) := by decide +kernel
theorem dL_895 : decode code 895 = .ok (.iload_n 3, 1) := by decide +kernel
theorem dL_896 : decode code 896 = .ok (.iconst 1, 1) := by decide +kernel
theorem dL_897 : decode code 897 = .ok (.iadd, 1) := by decide +kernel
theorem dL_898 : decode code 898 = .ok (.iaload, 1) := by decide +kernel
theorem dL_899 : decode code 899 = .ok (.aload_n 0, 1) := by decide +kernel
theorem dL_900 : decode code 900 = .ok (.iload_n 3, 1) := by decide +kernel
theorem dL_901 : decode code 901 = .ok (.iconst 2, 1) := by decide +kernel
theorem dL_902 : decode code 902 = .ok (.iadd, 1) := by decide +kernel
theorem dL_903 : decode code 903 = .ok (.iaload, 1) := by decide +kernel
theorem dL_904 : decode code 904 = .ok (.invokevirtual 96, 3) := by decide +kernel
theorem dL_907 : decode code 907 = .ok (.aload_n 2, 1) := by decide +kernel
theorem dL_908 : decode code 908 = .ok (.aload_n 0, 1) := by decide +kernel
theorem dL_909 : decode code 909 = .ok (.iload_n 3, 1) := by decide +kernel
theorem dL_910 : decode code 910 = .ok (.iconst 1, 1) := by decide +kernel
theorem dL_911 : decode code 911 = .ok (.iadd, 1) := by decide +kernel
theorem dL_912 : decode code 912 = .ok (.iaload, 1) := by decide +kernel
theorem dL_913 : decode code 913 = .ok (.aload_n 0, 1) := by decide +kernel
theorem dL_914 : decode code 914 = .ok (.iload_n 3, 1) := by decide +kernel
theorem dL_915 : decode code 915 = .ok (.iconst 2, 1) := by decide +kernel
theorem dL_916 : decode code 916 = .ok (.iadd, 1) := by decide +kernel
theorem dL_917 : decode code 917 = .ok (.iaload, 1) := by decide +kernel
theorem dL_918 : decode code 918 = .ok (.invokevirtual 99, 3) := by decide +kernel
theorem dL_921 : decode code 921 = .ok (.if_icmp .eq 681, 3) := by decide +kernel
theorem dL_924 : decode code 924 = .ok (.iconst 0, 1) := by decide +kernel
theorem dL_925 : decode code 925 = .ok (.ireturn, 1) := by decide +kernel
theorem dL_926 : decode code 926 = .ok (.aload_n 1, 1) := by decide +kernel
theorem dL_927 : decode code 927 = .ok (.aload_n 0, 1) := by decide +kernel
theorem dL_928 : decode code 928 = .ok (.iload_n 3, 1) := by decide +kernel
theorem dL_929 : decode code 929 = .ok (.iconst 1, 1) := by decide +kernel
theorem dL_930 : decode code 930 = .ok (.iadd, 1) := by decide +kernel
theorem dL_931 : decode code 931 = .ok (.iaload, 1) := by decide +kernel
theorem dL_932 : decode code 932 = .ok (.invokevirtual 100, 3) := by decide +kernel
theorem dL_935 : decode code 935 = .ok (.aload_n 2, 1) := by decide +kernel
theorem dL_936 : decode code 936 = .ok (.aload_n 0, 1) := by decide +kernel
theorem dL_937 : decode code 937 = .ok (.iload_n 3, 1) := by decide +kernel
theorem dL_938 : decode code 938 = .ok (.iconst 1, 1) := by decide +kernel
theorem dL_939 : decode code 939 = .ok (.iadd, 1) := by decide +kernel
theorem dL_940 : decode code 940 = .ok (.iaload, 1) := by decide +kernel
theorem dL_941 : decode code 941 = .ok (.invokevirtual 103, 3) := by decide +kernel
theorem dL_944 : decode code 944 = .ok (.if_icmp .eq 658, 3) := by decide +kernel
theorem dL_947 : decode code 947 = .ok (.iconst 0, 1) := by decide +kernel
theorem dL_948 : decode code 948 = .ok (.ireturn, 1) := by decide +kernel
theorem dL_949 : decode code 949 = .ok (.aload_n 1, 1) := by decide +kernel
theorem dL_950 : decode code 950 = .ok (.aload_n 0, 1) := by decide +kernel
theorem dL_951 : decode code 951 = .ok (.iload_n 3, 1) := by decide +kernel
theorem dL_952 : decode code 952 = .ok (.iconst 1, 1) := by decide +kernel
theorem dL_953 : decode code 953 = .ok (.iadd, 1) := by decide +kernel
theorem dL_954 : decode code 954 = .ok (.iaload, 1) := by decide +kernel
theorem dL_955 : decode code 955 = .ok (.aload_n 0, 1) := by decide +kernel
theorem dL_956 : decode code 956 = .ok (.iload_n 3, 1) := by decide +kernel
theorem dL_957 : decode code 957 = .ok (.iconst 2, 1) := by decide +kernel
theorem dL_958 : decode code 958 = .ok (.iadd, 1) := by decide +kernel
theorem dL_959 : decode code 959 = .ok (.iaload, 1) := by decide +kernel
theorem dL_960 : decode code 960 = .ok (.invokevirtual 104, 3) := by decide +kernel
theorem dL_963 : decode code 963 = .ok (.aload_n 2, 1) := by decide +kernel
theorem dL_964 : decode code 964 = .ok (.aload_n 0, 1) := by decide +kernel
theorem dL_965 : decode code 965 = .ok (.iload_n 3, 1) := by decide +kernel
theorem dL_966 : decode code 966 = .ok (.iconst 1, 1) := by decide +kernel
theorem dL_967 : decode code 967 = .ok (.iadd, 1) := by decide +kernel
theorem dL_968 : decode code 968 = .ok (.iaload, 1) := by decide +kernel
theorem dL_969 : decode code 969 = .ok (.aload_n 0, 1) := by decide +kernel
theorem dL_970 : decode code 970 = .ok (.iload_n 3, 1) := by decide +kernel
theorem dL_971 : decode code 971 = .ok (.iconst 2, 1) := by decide +kernel
theorem dL_972 : decode code 972 = .ok (.iadd, 1) := by decide +kernel
theorem dL_973 : decode code 973 = .ok (.iaload, 1) := by decide +kernel
theorem dL_974 : decode code 974 = .ok (.invokevirtual 107, 3) := by decide +kernel
theorem dL_977 : decode code 977 = .ok (.if_icmp .eq 625, 3) := by decide +kernel
theorem dL_980 : decode code 980 = .ok (.iconst 0, 1) := by decide +kernel
theorem dL_981 : decode code 981 = .ok (.ireturn, 1) := by decide +kernel
theorem dL_982 : decode code 982 = .ok (.aload_n 1, 1) := by decide +kernel
theorem dL_983 : decode code 983 = .ok (.aload_n 0, 1) := by decide +kernel
theorem dL_984 : decode code 984 = .ok (.iload_n 3, 1) := by decide +kernel
theorem dL_985 : decode code 985 = .ok (.iconst 1, 1) := by decide +kernel
theorem dL_986 : decode code 986 = .ok (.iadd, 1) := by decide +kernel
theorem dL_987 : decode code 987 = .ok (.iaload, 1) := by decide +kernel
theorem dL_988 : decode code 988 = .ok (.aload_n 0, 1) := by decide +kernel
theorem dL_989 : decode code 989 = .ok (.iload_n 3, 1) := by decide +kernel
theorem dL_990 : decode code 990 = .ok (.iconst 2, 1) := by decide +kernel
theorem dL_991 : decode code 991 = .ok (.iadd, 1) := by decide +kernel
theorem dL_992 : decode code 992 = .ok (.iaload, 1) := by decide +kernel
theorem dL_993 : decode code 993 = .ok (.aload_n 0, 1) := by decide +kernel
theorem dL_994 : decode code 994 = .ok (.iload_n 3, 1) := by decide +kernel
theorem dL_995 : decode code 995 = .ok (.iconst 3, 1) := by decide +kernel
theorem dL_996 : decode code 996 = .ok (.iadd, 1) := by decide +kernel
theorem dL_997 : decode code 997 = .ok (.iaload, 1) := by decide +kernel
theorem dL_998 : decode code 998 = .ok (.invokevirtual 108, 3) := by decide +kernel
theorem dL_1001 : decode code 1001 = .ok (.aload_n 2, 1) := by decide +kernel
theorem dL_1002 : decode code 1002 = .ok (.aload_n 0, 1) := by decide +kernel
theorem dL_1003 : decode code 1003 = .ok (.iload_n 3, 1) := by decide +kernel
theorem dL_1004 : decode code 1004 = .ok (.iconst 1, 1) := by decide +kernel
theorem dL_1005 : decode code 1005 = .ok (.iadd, 1) := by decide +kernel
theorem dL_1006 : decode code 1006 = .ok (.iaload, 1) := by decide +kernel
theorem dL_1007 : decode code 1007 = .ok (.aload_n 0, 1) := by decide +kernel
theorem dL_1008 : decode code 1008 = .ok (.iload_n 3, 1) := by decide +kernel
theorem dL_1009 : decode code 1009 = .ok (.iconst 2, 1) := by decide +kernel
theorem dL_1010 : decode code 1010 = .ok (.iadd, 1) := by decide +kernel
theorem dL_1011 : decode code 1011 = .ok (.iaload, 1) := by decide +kernel
theorem dL_1012 : decode code 1012 = .ok (.aload_n 0, 1) := by decide +kernel
theorem dL_1013 : decode code 1013 = .ok (.iload_n 3, 1) := by decide +kernel
theorem dL_1014 : decode code 1014 = .ok (.iconst 3, 1) := by decide +kernel
theorem dL_1015 : decode code 1015 = .ok (.iadd, 1) := by decide +kernel
theorem dL_1016 : decode code 1016 = .ok (.iaload, 1) := by decide +kernel
theorem dL_1017 : decode code 1017 = .ok (.invokevirtual 111, 3) := by decide +kernel
theorem dL_1020 : decode code 1020 = .ok (.if_icmp .eq 582, 3) := by decide +kernel
theorem dL_1023 : decode code 1023 = .ok (.iconst 0, 1) := by decide +kernel
theorem dL_1024 : decode code 1024 = .ok (.ireturn, 1) := by decide +kernel
theorem dL_1025 : decode code 1025 = .ok (.aload_n 1, 1) := by decide +kernel
theorem dL_1026 : decode code 1026 = .ok (.aload_n 0, 1) := by decide +kernel
theorem dL_1027 : decode code 1027 = .ok (.iload_n 3, 1) := by decide +kernel
theorem dL_1028 : decode code 1028 = .ok (.iconst 1, 1) := by decide +kernel
theorem dL_1029 : decode code 1029 = .ok (.iadd, 1) := by decide +kernel
theorem dL_1030 : decode code 1030 = .ok (.iaload, 1) := by decide +kernel
theorem dL_1031 : decode code 1031 = .ok (.aload_n 0, 1) := by decide +kernel
theorem dL_1032 : decode code 1032 = .ok (.iload_n 3, 1) := by decide +kernel
theorem dL_1033 : decode code 1033 = .ok (.iconst 2, 1) := by decide +kernel
theorem dL_1034 : decode code 1034 = .ok (.iadd, 1) := by decide +kernel
theorem dL_1035 : decode code 1035 = .ok (.iaload, 1) := by decide +kernel
theorem dL_1036 : decode code 1036 = .ok (.invokevirtual 112, 3) := by decide +kernel
theorem dL_1039 : decode code 1039 = .ok (.aload_n 2, 1) := by decide +kernel
theorem dL_1040 : decode code 1040 = .ok (.aload_n 0, 1) := by decide +kernel
theorem dL_1041 : decode code 1041 = .ok (.iload_n 3, 1) := by decide +kernel
theorem dL_1042 : decode code 1042 = .ok (.iconst 1, 1) := by decide +kernel
theorem dL_1043 : decode code 1043 = .ok (.iadd, 1) := by decide +kernel
theorem dL_1044 : decode code 1044 = .ok (.iaload, 1) := by decide +kernel
theorem dL_1045 : decode code 1045 = .ok (.aload_n 0, 1) := by decide +kernel
theorem dL_1046 : decode code 1046 = .ok (.iload_n 3, 1) := by decide +kernel
theorem dL_1047 : decode code 1047 = .ok (.iconst 2, 1) := by decide +kernel
theorem dL_1048 : decode code 1048 = .ok (.iadd, 1) := by decide +kernel
theorem dL_1049 : decode code 1049 = .ok (.iaload, 1) := by decide +kernel
theorem dL_1050 : decode code 1050 = .ok (.invokevirtual 115, 3) := by decide +kernel
theorem dL_1053 : decode code 1053 = .ok (.if_icmp .eq 549, 3) := by decide +kernel
theorem dL_1056 : decode code 1056 = .ok (.iconst 0, 1) := by decide +kernel
theorem dL_1057 : decode code 1057 = .ok (.ireturn, 1) := by decide +kernel
theorem dL_1058 : decode code 1058 = .ok (.aload_n 1, 1) := by decide +kernel
theorem dL_1059 : decode code 1059 = .ok (.aload_n 0, 1) := by decide +kernel
theorem dL_1060 : decode code 1060 = .ok (.iload_n 3, 1) := by decide +kernel
theorem dL_1061 : decode code 1061 = .ok (.iconst 1, 1) := by decide +kernel
theorem dL_1062 : decode code 1062 = .ok (.iadd, 1) := by decide +kernel
theorem dL_1063 : decode code 1063 = .ok (.iaload, 1) := by decide +kernel
theorem dL_1064 : decode code 1064 = .ok (.aload_n 0, 1) := by decide +kernel
theorem dL_1065 : decode code 1065 = .ok (.iload_n 3, 1) := by decide +kernel
theorem dL_1066 : decode code 1066 = .ok (.iconst 2, 1) := by decide +kernel
theorem dL_1067 : decode code 1067 = .ok (.iadd, 1) := by decide +kernel
theorem dL_1068 : decode code 1068 = .ok (.iaload, 1) := by decide +kernel
theorem dL_1069 : decode code 1069 = .ok (.aload_n 0, 1) := by decide +kernel
theorem dL_1070 : decode code 1070 = .ok (.iload_n 3, 1) := by decide +kernel
theorem dL_1071 : decode code 1071 = .ok (.iconst 3, 1) := by decide +kernel
theorem dL_1072 : decode code 1072 = .ok (.iadd, 1) := by decide +kernel
theorem dL_1073 : decode code 1073 = .ok (.iaload, 1) := by decide +kernel
theorem dL_1074 : decode code 1074 = .ok (.invokevirtual 116, 3) := by decide +kernel
theorem dL_1077 : decode code 1077 = .ok (.aload_n 2, 1) := by decide +kernel
theorem dL_1078 : decode code 1078 = .ok (.aload_n 0, 1) := by decide +kernel
theorem dL_1079 : decode code 1079 = .ok (.iload_n 3, 1) := by decide +kernel
theorem dL_1080 : decode code 1080 = .ok (.iconst 1, 1) := by decide +kernel
theorem dL_1081 : decode code 1081 = .ok (.iadd, 1) := by decide +kernel
theorem dL_1082 : decode code 1082 = .ok (.iaload, 1) := by decide +kernel
theorem dL_1083 : decode code 1083 = .ok (.aload_n 0, 1) := by decide +kernel
theorem dL_1084 : decode code 1084 = .ok (.iload_n 3, 1) := by decide +kernel
theorem dL_1085 : decode code 1085 = .ok (.iconst 2, 1) := by decide +kernel
theorem dL_1086 : decode code 1086 = .ok (.iadd, 1) := by decide +kernel
theorem dL_1087 : decode code 1087 = .ok (.iaload, 1) := by decide +kernel
theorem dL_1088 : decode code 1088 = .ok (.aload_n 0, 1) := by decide +kernel
theorem dL_1089 : decode code 1089 = .ok (.iload_n 3, 1) := by decide +kernel
theorem dL_1090 : decode code 1090 = .ok (.iconst 3, 1) := by decide +kernel
theorem dL_1091 : decode code 1091 = .ok (.iadd, 1) := by decide +kernel
theorem dL_1092 : decode code 1092 = .ok (.iaload, 1) := by decide +kernel
theorem dL_1093 : decode code 1093 = .ok (.invokevirtual 119, 3) := by decide +kernel
theorem dL_1096 : decode code 1096 = .ok (.if_icmp .eq 506, 3) := by decide +kernel
theorem dL_1099 : decode code 1099 = .ok (.iconst 0, 1) := by decide +kernel
theorem dL_1100 : decode code 1100 = .ok (.ireturn, 1) := by decide +kernel
theorem dL_1101 : decode code 1101 = .ok (.aload_n 1, 1) := by decide +kernel
theorem dL_1102 : decode code 1102 = .ok (.aload_n 0, 1) := by decide +kernel
theorem dL_1103 : decode code 1103 = .ok (.iload_n 3, 1) := by decide +kernel
theorem dL_1104 : decode code 1104 = .ok (.iconst 1, 1) := by decide +kernel
theorem dL_1105 : decode code 1105 = .ok (.iadd, 1) := by decide +kernel
theorem dL_1106 : decode code 1106 = .ok (.iaload, 1) := by decide +kernel
theorem dL_1107 : decode code 1107 = .ok (.aload_n 0, 1) := by decide +kernel
theorem dL_1108 : decode code 1108 = .ok (.iload_n 3, 1) := by decide +kernel
theorem dL_1109 : decode code 1109 = .ok (.iconst 2, 1) := by decide +kernel
theorem dL_1110 : decode code 1110 = .ok (.iadd, 1) := by decide +kernel
theorem dL_1111 : decode code 1111 = .ok (.iaload, 1) := by decide +kernel
theorem dL_1112 : decode code 1112 = .ok (.invokevirtual 120, 3) := by decide +kernel
theorem dL_1115 : decode code 1115 = .ok (.aload_n 2, 1) := by decide +kernel
theorem dL_1116 : decode code 1116 = .ok (.aload_n 0, 1) := by decide +kernel
theorem dL_1117 : decode code 1117 = .ok (.iload_n 3, 1) := by decide +kernel
theorem dL_1118 : decode code 1118 = .ok (.iconst 1, 1) := by decide +kernel
theorem dL_1119 : decode code 1119 = .ok (.iadd, 1) := by decide +kernel
theorem dL_1120 : decode code 1120 = .ok (.iaload, 1) := by decide +kernel
theorem dL_1121 : decode code 1121 = .ok (.aload_n 0, 1) := by decide +kernel
theorem dL_1122 : decode code 1122 = .ok (.iload_n 3, 1) := by decide +kernel
theorem dL_1123 : decode code 1123 = .ok (.iconst 2, 1) := by decide +kernel
theorem dL_1124 : decode code 1124 = .ok (.iadd, 1) := by decide +kernel
theorem dL_1125 : decode code 1125 = .ok (.iaload, 1) := by decide +kernel
theorem dL_1126 : decode code 1126 = .ok (.invokevirtual 123, 3) := by decide +kernel
theorem dL_1129 : decode code 1129 = .ok (.if_icmp .eq 473, 3) := by decide +kernel
theorem dL_1132 : decode code 1132 = .ok (.iconst 0, 1) := by decide +kernel
theorem dL_1133 : decode code 1133 = .ok (.ireturn, 1) := by decide +kernel
theorem dL_1134 : decode code 1134 = .ok (.aload_n 1, 1) := by decide +kernel
theorem dL_1135 : decode code 1135 = .ok (.aload_n 0, 1) := by decide +kernel
theorem dL_1136 : decode code 1136 = .ok (.iload_n 3, 1) := by decide +kernel
theorem dL_1137 : decode code 1137 = .ok (.iconst 1, 1) := by decide +kernel
theorem dL_1138 : decode code 1138 = .ok (.iadd, 1) := by decide +kernel
theorem dL_1139 : decode code 1139 = .ok (.iaload, 1) := by decide +kernel
theorem dL_1140 : decode code 1140 = .ok (.aload_n 0, 1) := by decide +kernel
theorem dL_1141 : decode code 1141 = .ok (.iload_n 3, 1) := by decide +kernel
theorem dL_1142 : decode code 1142 = .ok (.iconst 2, 1) := by decide +kernel
theorem dL_1143 : decode code 1143 = .ok (.iadd, 1) := by decide +kernel
theorem dL_1144 : decode code 1144 = .ok (.iaload, 1) := by decide +kernel
theorem dL_1145 : decode code 1145 = .ok (.invokevirtual 124, 3) := by decide +kernel
theorem dL_1148 : decode code 1148 = .ok (.aload_n 2, 1) := by decide +kernel
theorem dL_1149 : decode code 1149 = .ok (.aload_n 0, 1) := by decide +kernel
theorem dL_1150 : decode code 1150 = .ok (.iload_n 3, 1) := by decide +kernel
theorem dL_1151 : decode code 1151 = .ok (.iconst 1, 1) := by decide +kernel
theorem dL_1152 : decode code 1152 = .ok (.iadd, 1) := by decide +kernel
theorem dL_1153 : decode code 1153 = .ok (.iaload, 1) := by decide +kernel
theorem dL_1154 : decode code 1154 = .ok (.aload_n 0, 1) := by decide +kernel
theorem dL_1155 : decode code 1155 = .ok (.iload_n 3, 1) := by decide +kernel
theorem dL_1156 : decode code 1156 = .ok (.iconst 2, 1) := by decide +kernel
theorem dL_1157 : decode code 1157 = .ok (.iadd, 1) := by decide +kernel
theorem dL_1158 : decode code 1158 = .ok (.iaload, 1) := by decide +kernel
theorem dL_1159 : decode code 1159 = .ok (.invokevirtual 127, 3) := by decide +kernel
theorem dL_1162 : decode code 1162 = .ok (.if_icmp .eq 440, 3) := by decide +kernel
theorem dL_1165 : decode code 1165 = .ok (.iconst 0, 1) := by decide +kernel
theorem dL_1166 : decode code 1166 = .ok (.ireturn, 1) := by decide +kernel
theorem dL_1167 : decode code 1167 = .ok (.aload_n 1, 1) := by decide +kernel
theorem dL_1168 : decode code 1168 = .ok (.aload_n 0, 1) := by decide +kernel
theorem dL_1169 : decode code 1169 = .ok (.iload_n 3, 1) := by decide +kernel
theorem dL_1170 : decode code 1170 = .ok (.iconst 1, 1) := by decide +kernel
theorem dL_1171 : decode code 1171 = .ok (.iadd, 1) := by decide +kernel
theorem dL_1172 : decode code 1172 = .ok (.iaload, 1) := by decide +kernel
theorem dL_1173 : decode code 1173 = .ok (.aload_n 0, 1) := by decide +kernel
theorem dL_1174 : decode code 1174 = .ok (.iload_n 3, 1) := by decide +kernel
theorem dL_1175 : decode code 1175 = .ok (.iconst 2, 1) := by decide +kernel
theorem dL_1176 : decode code 1176 = .ok (.iadd, 1) := by decide +kernel
theorem dL_1177 : decode code 1177 = .ok (.iaload, 1) := by decide +kernel
theorem dL_1178 : decode code 1178 = .ok (.invokevirtual 128, 3) := by decide +kernel
theorem dL_1181 : decode code 1181 = .ok (.aload_n 2, 1) := by decide +kernel
theorem dL_1182 : decode code 1182 = .ok (.aload_n 0, 1) := by decide +kernel
theorem dL_1183 : decode code 1183 = .ok (.iload_n 3, 1) := by decide +kernel
theorem dL_1184 : decode code 1184 = .ok (.iconst 1, 1) := by decide +kernel
theorem dL_1185 : decode code 1185 = .ok (.iadd, 1) := by decide +kernel
theorem dL_1186 : decode code 1186 = .ok (.iaload, 1) := by decide +kernel
theorem dL_1187 : decode code 1187 = .ok (.aload_n 0, 1) := by decide +kernel
theorem dL_1188 : decode code 1188 = .ok (.iload_n 3, 1) := by decide +kernel
theorem dL_1189 : decode code 1189 = .ok (.iconst 2, 1) := by decide +kernel
theorem dL_1190 : decode code 1190 = .ok (.iadd, 1) := by decide +kernel
theorem dL_1191 : decode code 1191 = .ok (.iaload, 1) := by decide +kernel
theorem dL_1192 : decode code 1192 = .ok (.invokevirtual 131, 3) := by decide +kernel
theorem dL_1195 : decode code 1195 = .ok (.if_icmp .eq 407, 3) := by decide +kernel
theorem dL_1198 : decode code 1198 = .ok (.iconst 0, 1) := by decide +kernel
theorem dL_1199 : decode code 1199 = .ok (.ireturn, 1) := by decide +kernel
theorem dL_1200 : decode code 1200 = .ok (.aload_n 1, 1) := by decide +kernel
theorem dL_1201 : decode code 1201 = .ok (.aload_n 0, 1) := by decide +kernel
theorem dL_1202 : decode code 1202 = .ok (.iload_n 3, 1) := by decide +kernel
theorem dL_1203 : decode code 1203 = .ok (.iconst 1, 1) := by decide +kernel
theorem dL_1204 : decode code 1204 = .ok (.iadd, 1) := by decide +kernel
theorem dL_1205 : decode code 1205 = .ok (.iaload, 1) := by decide +kernel
theorem dL_1206 : decode code 1206 = .ok (.invokevirtual 132, 3) := by decide +kernel
theorem dL_1209 : decode code 1209 = .ok (.aload_n 2, 1) := by decide +kernel
theorem dL_1210 : decode code 1210 = .ok (.aload_n 0, 1) := by decide +kernel
theorem dL_1211 : decode code 1211 = .ok (.iload_n 3, 1) := by decide +kernel
theorem dL_1212 : decode code 1212 = .ok (.iconst 1, 1) := by decide +kernel
theorem dL_1213 : decode code 1213 = .ok (.iadd, 1) := by decide +kernel
theorem dL_1214 : decode code 1214 = .ok (.iaload, 1) := by decide +kernel
theorem dL_1215 : decode code 1215 = .ok (.invokevirtual 135, 3) := by decide +kernel
theorem dL_1218 : decode code 1218 = .ok (.if_icmp .eq 384, 3) := by decide +kernel
theorem dL_1221 : decode code 1221 = .ok (.iconst 0, 1) := by decide +kernel
theorem dL_1222 : decode code 1222 = .ok (.ireturn, 1) := by decide +kernel
theorem dL_1223 : decode code 1223 = .ok (.aload_n 1, 1) := by decide +kernel
theorem dL_1224 : decode code 1224 = .ok (.aload_n 0, 1) := by decide +kernel
theorem dL_1225 : decode code 1225 = .ok (.iload_n 3, 1) := by decide +kernel
theorem dL_1226 : decode code 1226 = .ok (.iconst 1, 1) := by decide +kernel
theorem dL_1227 : decode code 1227 = .ok (.iadd, 1) := by decide +kernel
theorem dL_1228 : decode code 1228 = .ok (.iaload, 1) := by decide +kernel
theorem dL_1229 : decode code 1229 = .ok (.aload_n 0, 1) := by decide +kernel
theorem dL_1230 : decode code 1230 = .ok (.iload_n 3, 1) := by decide +kernel
theorem dL_1231 : decode code 1231 = .ok (.iconst 2, 1) := by decide +kernel
theorem dL_1232 : decode code 1232 = .ok (.iadd, 1) := by decide +kernel
theorem dL_1233 : decode code 1233 = .ok (.iaload, 1) := by decide +kernel
theorem dL_1234 : decode code 1234 = .ok (.aload_n 0, 1) := by decide +kernel
theorem dL_1235 : decode code 1235 = .ok (.iload_n 3, 1) := by decide +kernel
theorem dL_1236 : decode code 1236 = .ok (.iconst 3, 1) := by decide +kernel
theorem dL_1237 : decode code 1237 = .ok (.iadd, 1) := by decide +kernel
theorem dL_1238 : decode code 1238 = .ok (.iaload, 1) := by decide +kernel
theorem dL_1239 : decode code 1239 = .ok (.invokevirtual 136, 3) := by decide +kernel
theorem dL_1242 : decode code 1242 = .ok (.aload_n 2, 1) := by decide +kernel
